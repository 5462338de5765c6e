/-! DECODE ROWS BY BYTES: one lemma an opcode; a method's code is cut into short pieces once, and a row reads its own piece alone. -/
set_option maxRecDepth 100000
/-- the code has just these bytes from pc on -/
def DkAt (code : ByteArray) (pc : Nat) (bs : List UInt8) : Prop := ∀ (j : Nat) (b : UInt8), bs[j]? = some b → code.data.toList[pc + j]? = some b
/-- the piece W has the bytes bs from its place j on -/
def dkIn (W : List UInt8) (j : Nat) (bs : List UInt8) : Bool := decide ((W.drop j).take bs.length = bs)
theorem dk_seg {l W T : List UInt8} {o o2 : Nat} (h : l.drop o = W ++ T) (n : Nat) (hn : W.length = n) (ho : o + n = o2) : l.drop o2 = T := by
  subst ho
  rw [← List.drop_drop, h, List.drop_left' hn]
theorem dk_at {code : ByteArray} {W T bs : List UInt8} {o pc : Nat} (h : code.data.toList.drop o = W ++ T) (j : Nat) (hp : o + j = pc) (hw : dkIn W j bs = true) : DkAt code pc bs := by
  subst hp
  intro i b e
  have h1 := of_decide_eq_true hw
  have h2 : i < bs.length := (List.getElem?_eq_some_iff.mp e).1
  have h3 : W[j + i]? = some b := by
    rw [← h1, List.getElem?_take, if_pos h2, List.getElem?_drop] at e
    exact e
  have h4 : j + i < W.length := (List.getElem?_eq_some_iff.mp h3).1
  have h5 : (code.data.toList.drop o)[j + i]? = some b := by
    rw [h, List.getElem?_append_left h4]
    exact h3
  rw [List.getElem?_drop, ← Nat.add_assoc] at h5
  exact h5
theorem dk_u1 {A : ByteArray} {p : Nat} {b : UInt8} (h : A.data.toList[p]? = some b) : (Reader.u1 : Reader DecodeError Nat) A p = .ok (b.toNat, p + 1) := by
  obtain ⟨h1, h2⟩ := List.getElem?_eq_some_iff.mp h
  have h3 : p < A.size := by simpa using h1
  have h4 : A[p]'h3 = b := h2
  have e : (Reader.u1 : Reader DecodeError Nat) A p = (if h : p < A.size then .ok (A[p].toNat, p + 1) else .error (HasTruncated.truncated p)) := by
    show (do if h : p < A.size then do set (p + 1); Pure.pure A[p].toNat else MonadExcept.throw (HasTruncated.truncated p) : Reader DecodeError Nat) A p = _
    by_cases hi : p < A.size
    · rw [dif_pos hi, dif_pos hi]; rfl
    · rw [dif_neg hi, dif_neg hi]; rfl
  rw [e, dif_pos h3, h4]
theorem dk_bind {α β : Type} {r : Reader DecodeError α} {f : α → Reader DecodeError β} {A : ByteArray} {p s : Nat} {a : α} (h : r A p = .ok (a, s)) : (r >>= f) A p = f a A s := by
  show (do let (a, s) ← r A p; f a A s : Except DecodeError (β × Nat)) = _
  rw [h]
  rfl
theorem dk_map {α β : Type} {r : Reader DecodeError α} {g : α → β} {A : ByteArray} {p s : Nat} {a : α} (h : r A p = .ok (a, s)) : (g <$> r) A p = .ok (g a, s) := by
  show (do let (a, s) ← r A p; .ok (g a, s) : Except DecodeError (β × Nat)) = _
  rw [h]
  rfl
theorem dk_u2 {A : ByteArray} {p : Nat} {a b : UInt8} (h : A.data.toList[p]? = some a) (h2 : A.data.toList[p + 1]? = some b) : (Reader.u2 : Reader DecodeError Nat) A p = .ok (a.toNat * 256 + b.toNat, p + 2) := by
  show (Reader.u1 >>= fun hi => Reader.u1 >>= fun lo => Pure.pure (hi * 256 + lo) : Reader DecodeError Nat) A p = _
  rw [dk_bind (dk_u1 h), dk_bind (dk_u1 h2)]
  rfl
theorem dk_of {code : ByteArray} {pc n : Nat} {i : Instr} (h : Decoder.instr pc code pc = .ok (i, pc + n)) : decode code pc = .ok (i, n) := by
  have e : decode code pc = (match Decoder.instr pc code pc with | .error x => .error x | .ok (j, s) => .ok (j, s - pc)) := by
    show (do let (j, s) ← Decoder.instr pc code pc; Pure.pure (j, s - pc) : Except DecodeError (Instr × Nat)) = _
    cases Decoder.instr pc code pc <;> rfl
  rw [e, h]
  show Except.ok (i, pc + n - pc) = _
  rw [Nat.add_sub_cancel_left]
theorem dk_1 {code : ByteArray} {pc : Nat} (h : DkAt code pc [1]) : decode code pc = .ok (.aconst_null, 1) := dk_of ((dk_bind (dk_u1 (h 0 _ rfl))).trans rfl)
theorem dk_2 {code : ByteArray} {pc : Nat} (h : DkAt code pc [2]) : decode code pc = .ok (.iconst (-1), 1) := dk_of ((dk_bind (dk_u1 (h 0 _ rfl))).trans rfl)
theorem dk_3 {code : ByteArray} {pc : Nat} (h : DkAt code pc [3]) : decode code pc = .ok (.iconst 0, 1) := dk_of ((dk_bind (dk_u1 (h 0 _ rfl))).trans rfl)
theorem dk_4 {code : ByteArray} {pc : Nat} (h : DkAt code pc [4]) : decode code pc = .ok (.iconst 1, 1) := dk_of ((dk_bind (dk_u1 (h 0 _ rfl))).trans rfl)
theorem dk_5 {code : ByteArray} {pc : Nat} (h : DkAt code pc [5]) : decode code pc = .ok (.iconst 2, 1) := dk_of ((dk_bind (dk_u1 (h 0 _ rfl))).trans rfl)
theorem dk_6 {code : ByteArray} {pc : Nat} (h : DkAt code pc [6]) : decode code pc = .ok (.iconst 3, 1) := dk_of ((dk_bind (dk_u1 (h 0 _ rfl))).trans rfl)
theorem dk_7 {code : ByteArray} {pc : Nat} (h : DkAt code pc [7]) : decode code pc = .ok (.iconst 4, 1) := dk_of ((dk_bind (dk_u1 (h 0 _ rfl))).trans rfl)
theorem dk_8 {code : ByteArray} {pc : Nat} (h : DkAt code pc [8]) : decode code pc = .ok (.iconst 5, 1) := dk_of ((dk_bind (dk_u1 (h 0 _ rfl))).trans rfl)
theorem dk_9 {code : ByteArray} {pc : Nat} (h : DkAt code pc [9]) : decode code pc = .ok (.lconst 0, 1) := dk_of ((dk_bind (dk_u1 (h 0 _ rfl))).trans rfl)
theorem dk_10 {code : ByteArray} {pc : Nat} (h : DkAt code pc [10]) : decode code pc = .ok (.lconst 1, 1) := dk_of ((dk_bind (dk_u1 (h 0 _ rfl))).trans rfl)
theorem dk_16 {code : ByteArray} {pc : Nat} (a : UInt8) (h : DkAt code pc [16, a]) : decode code pc = .ok (.bipush (Reader.signed 8 a.toNat), 2) := dk_of ((dk_bind (dk_u1 (h 0 _ rfl))).trans ((dk_bind (dk_map (dk_u1 (h 1 _ rfl)))).trans rfl))
theorem dk_17 {code : ByteArray} {pc : Nat} (a b : UInt8) (h : DkAt code pc [17, a, b]) : decode code pc = .ok (.sipush (Reader.signed 16 (a.toNat * 256 + b.toNat)), 3) := dk_of ((dk_bind (dk_u1 (h 0 _ rfl))).trans ((dk_bind (dk_map (dk_u2 (h 1 _ rfl) (h 2 _ rfl)))).trans rfl))
theorem dk_18 {code : ByteArray} {pc : Nat} (a : UInt8) (h : DkAt code pc [18, a]) : decode code pc = .ok (.ldc a.toNat, 2) := dk_of ((dk_bind (dk_u1 (h 0 _ rfl))).trans ((dk_bind (dk_u1 (h 1 _ rfl))).trans rfl))
theorem dk_19 {code : ByteArray} {pc : Nat} (a b : UInt8) (h : DkAt code pc [19, a, b]) : decode code pc = .ok (.ldc_w (a.toNat * 256 + b.toNat), 3) := dk_of ((dk_bind (dk_u1 (h 0 _ rfl))).trans ((dk_bind (dk_u2 (h 1 _ rfl) (h 2 _ rfl))).trans rfl))
theorem dk_20 {code : ByteArray} {pc : Nat} (a b : UInt8) (h : DkAt code pc [20, a, b]) : decode code pc = .ok (.ldc2_w (a.toNat * 256 + b.toNat), 3) := dk_of ((dk_bind (dk_u1 (h 0 _ rfl))).trans ((dk_bind (dk_u2 (h 1 _ rfl) (h 2 _ rfl))).trans rfl))
theorem dk_21 {code : ByteArray} {pc : Nat} (a : UInt8) (h : DkAt code pc [21, a]) : decode code pc = .ok (.iload a.toNat, 2) := dk_of ((dk_bind (dk_u1 (h 0 _ rfl))).trans ((dk_bind (dk_u1 (h 1 _ rfl))).trans rfl))
theorem dk_22 {code : ByteArray} {pc : Nat} (a : UInt8) (h : DkAt code pc [22, a]) : decode code pc = .ok (.lload a.toNat, 2) := dk_of ((dk_bind (dk_u1 (h 0 _ rfl))).trans ((dk_bind (dk_u1 (h 1 _ rfl))).trans rfl))
theorem dk_23 {code : ByteArray} {pc : Nat} (a : UInt8) (h : DkAt code pc [23, a]) : decode code pc = .ok (.fload a.toNat, 2) := dk_of ((dk_bind (dk_u1 (h 0 _ rfl))).trans ((dk_bind (dk_u1 (h 1 _ rfl))).trans rfl))
theorem dk_25 {code : ByteArray} {pc : Nat} (a : UInt8) (h : DkAt code pc [25, a]) : decode code pc = .ok (.aload a.toNat, 2) := dk_of ((dk_bind (dk_u1 (h 0 _ rfl))).trans ((dk_bind (dk_u1 (h 1 _ rfl))).trans rfl))
theorem dk_26 {code : ByteArray} {pc : Nat} (h : DkAt code pc [26]) : decode code pc = .ok (.iload_n 0, 1) := dk_of ((dk_bind (dk_u1 (h 0 _ rfl))).trans rfl)
theorem dk_27 {code : ByteArray} {pc : Nat} (h : DkAt code pc [27]) : decode code pc = .ok (.iload_n 1, 1) := dk_of ((dk_bind (dk_u1 (h 0 _ rfl))).trans rfl)
theorem dk_28 {code : ByteArray} {pc : Nat} (h : DkAt code pc [28]) : decode code pc = .ok (.iload_n 2, 1) := dk_of ((dk_bind (dk_u1 (h 0 _ rfl))).trans rfl)
theorem dk_29 {code : ByteArray} {pc : Nat} (h : DkAt code pc [29]) : decode code pc = .ok (.iload_n 3, 1) := dk_of ((dk_bind (dk_u1 (h 0 _ rfl))).trans rfl)
theorem dk_30 {code : ByteArray} {pc : Nat} (h : DkAt code pc [30]) : decode code pc = .ok (.lload_n 0, 1) := dk_of ((dk_bind (dk_u1 (h 0 _ rfl))).trans rfl)
theorem dk_31 {code : ByteArray} {pc : Nat} (h : DkAt code pc [31]) : decode code pc = .ok (.lload_n 1, 1) := dk_of ((dk_bind (dk_u1 (h 0 _ rfl))).trans rfl)
theorem dk_32 {code : ByteArray} {pc : Nat} (h : DkAt code pc [32]) : decode code pc = .ok (.lload_n 2, 1) := dk_of ((dk_bind (dk_u1 (h 0 _ rfl))).trans rfl)
theorem dk_33 {code : ByteArray} {pc : Nat} (h : DkAt code pc [33]) : decode code pc = .ok (.lload_n 3, 1) := dk_of ((dk_bind (dk_u1 (h 0 _ rfl))).trans rfl)
theorem dk_42 {code : ByteArray} {pc : Nat} (h : DkAt code pc [42]) : decode code pc = .ok (.aload_n 0, 1) := dk_of ((dk_bind (dk_u1 (h 0 _ rfl))).trans rfl)
theorem dk_43 {code : ByteArray} {pc : Nat} (h : DkAt code pc [43]) : decode code pc = .ok (.aload_n 1, 1) := dk_of ((dk_bind (dk_u1 (h 0 _ rfl))).trans rfl)
theorem dk_44 {code : ByteArray} {pc : Nat} (h : DkAt code pc [44]) : decode code pc = .ok (.aload_n 2, 1) := dk_of ((dk_bind (dk_u1 (h 0 _ rfl))).trans rfl)
theorem dk_45 {code : ByteArray} {pc : Nat} (h : DkAt code pc [45]) : decode code pc = .ok (.aload_n 3, 1) := dk_of ((dk_bind (dk_u1 (h 0 _ rfl))).trans rfl)
theorem dk_46 {code : ByteArray} {pc : Nat} (h : DkAt code pc [46]) : decode code pc = .ok (.iaload, 1) := dk_of ((dk_bind (dk_u1 (h 0 _ rfl))).trans rfl)
theorem dk_47 {code : ByteArray} {pc : Nat} (h : DkAt code pc [47]) : decode code pc = .ok (.laload, 1) := dk_of ((dk_bind (dk_u1 (h 0 _ rfl))).trans rfl)
theorem dk_50 {code : ByteArray} {pc : Nat} (h : DkAt code pc [50]) : decode code pc = .ok (.aaload, 1) := dk_of ((dk_bind (dk_u1 (h 0 _ rfl))).trans rfl)
theorem dk_51 {code : ByteArray} {pc : Nat} (h : DkAt code pc [51]) : decode code pc = .ok (.baload, 1) := dk_of ((dk_bind (dk_u1 (h 0 _ rfl))).trans rfl)
theorem dk_52 {code : ByteArray} {pc : Nat} (h : DkAt code pc [52]) : decode code pc = .ok (.caload, 1) := dk_of ((dk_bind (dk_u1 (h 0 _ rfl))).trans rfl)
theorem dk_53 {code : ByteArray} {pc : Nat} (h : DkAt code pc [53]) : decode code pc = .ok (.saload, 1) := dk_of ((dk_bind (dk_u1 (h 0 _ rfl))).trans rfl)
theorem dk_54 {code : ByteArray} {pc : Nat} (a : UInt8) (h : DkAt code pc [54, a]) : decode code pc = .ok (.istore a.toNat, 2) := dk_of ((dk_bind (dk_u1 (h 0 _ rfl))).trans ((dk_bind (dk_u1 (h 1 _ rfl))).trans rfl))
theorem dk_55 {code : ByteArray} {pc : Nat} (a : UInt8) (h : DkAt code pc [55, a]) : decode code pc = .ok (.lstore a.toNat, 2) := dk_of ((dk_bind (dk_u1 (h 0 _ rfl))).trans ((dk_bind (dk_u1 (h 1 _ rfl))).trans rfl))
theorem dk_56 {code : ByteArray} {pc : Nat} (a : UInt8) (h : DkAt code pc [56, a]) : decode code pc = .ok (.fstore a.toNat, 2) := dk_of ((dk_bind (dk_u1 (h 0 _ rfl))).trans ((dk_bind (dk_u1 (h 1 _ rfl))).trans rfl))
theorem dk_58 {code : ByteArray} {pc : Nat} (a : UInt8) (h : DkAt code pc [58, a]) : decode code pc = .ok (.astore a.toNat, 2) := dk_of ((dk_bind (dk_u1 (h 0 _ rfl))).trans ((dk_bind (dk_u1 (h 1 _ rfl))).trans rfl))
theorem dk_59 {code : ByteArray} {pc : Nat} (h : DkAt code pc [59]) : decode code pc = .ok (.istore_n 0, 1) := dk_of ((dk_bind (dk_u1 (h 0 _ rfl))).trans rfl)
theorem dk_60 {code : ByteArray} {pc : Nat} (h : DkAt code pc [60]) : decode code pc = .ok (.istore_n 1, 1) := dk_of ((dk_bind (dk_u1 (h 0 _ rfl))).trans rfl)
theorem dk_61 {code : ByteArray} {pc : Nat} (h : DkAt code pc [61]) : decode code pc = .ok (.istore_n 2, 1) := dk_of ((dk_bind (dk_u1 (h 0 _ rfl))).trans rfl)
theorem dk_62 {code : ByteArray} {pc : Nat} (h : DkAt code pc [62]) : decode code pc = .ok (.istore_n 3, 1) := dk_of ((dk_bind (dk_u1 (h 0 _ rfl))).trans rfl)
theorem dk_64 {code : ByteArray} {pc : Nat} (h : DkAt code pc [64]) : decode code pc = .ok (.lstore_n 1, 1) := dk_of ((dk_bind (dk_u1 (h 0 _ rfl))).trans rfl)
theorem dk_65 {code : ByteArray} {pc : Nat} (h : DkAt code pc [65]) : decode code pc = .ok (.lstore_n 2, 1) := dk_of ((dk_bind (dk_u1 (h 0 _ rfl))).trans rfl)
theorem dk_66 {code : ByteArray} {pc : Nat} (h : DkAt code pc [66]) : decode code pc = .ok (.lstore_n 3, 1) := dk_of ((dk_bind (dk_u1 (h 0 _ rfl))).trans rfl)
theorem dk_75 {code : ByteArray} {pc : Nat} (h : DkAt code pc [75]) : decode code pc = .ok (.astore_n 0, 1) := dk_of ((dk_bind (dk_u1 (h 0 _ rfl))).trans rfl)
theorem dk_76 {code : ByteArray} {pc : Nat} (h : DkAt code pc [76]) : decode code pc = .ok (.astore_n 1, 1) := dk_of ((dk_bind (dk_u1 (h 0 _ rfl))).trans rfl)
theorem dk_77 {code : ByteArray} {pc : Nat} (h : DkAt code pc [77]) : decode code pc = .ok (.astore_n 2, 1) := dk_of ((dk_bind (dk_u1 (h 0 _ rfl))).trans rfl)
theorem dk_78 {code : ByteArray} {pc : Nat} (h : DkAt code pc [78]) : decode code pc = .ok (.astore_n 3, 1) := dk_of ((dk_bind (dk_u1 (h 0 _ rfl))).trans rfl)
theorem dk_79 {code : ByteArray} {pc : Nat} (h : DkAt code pc [79]) : decode code pc = .ok (.iastore, 1) := dk_of ((dk_bind (dk_u1 (h 0 _ rfl))).trans rfl)
theorem dk_80 {code : ByteArray} {pc : Nat} (h : DkAt code pc [80]) : decode code pc = .ok (.lastore, 1) := dk_of ((dk_bind (dk_u1 (h 0 _ rfl))).trans rfl)
theorem dk_83 {code : ByteArray} {pc : Nat} (h : DkAt code pc [83]) : decode code pc = .ok (.aastore, 1) := dk_of ((dk_bind (dk_u1 (h 0 _ rfl))).trans rfl)
theorem dk_84 {code : ByteArray} {pc : Nat} (h : DkAt code pc [84]) : decode code pc = .ok (.bastore, 1) := dk_of ((dk_bind (dk_u1 (h 0 _ rfl))).trans rfl)
theorem dk_87 {code : ByteArray} {pc : Nat} (h : DkAt code pc [87]) : decode code pc = .ok (.pop, 1) := dk_of ((dk_bind (dk_u1 (h 0 _ rfl))).trans rfl)
theorem dk_89 {code : ByteArray} {pc : Nat} (h : DkAt code pc [89]) : decode code pc = .ok (.dup, 1) := dk_of ((dk_bind (dk_u1 (h 0 _ rfl))).trans rfl)
theorem dk_90 {code : ByteArray} {pc : Nat} (h : DkAt code pc [90]) : decode code pc = .ok (.dup_x1, 1) := dk_of ((dk_bind (dk_u1 (h 0 _ rfl))).trans rfl)
theorem dk_91 {code : ByteArray} {pc : Nat} (h : DkAt code pc [91]) : decode code pc = .ok (.dup_x2, 1) := dk_of ((dk_bind (dk_u1 (h 0 _ rfl))).trans rfl)
theorem dk_92 {code : ByteArray} {pc : Nat} (h : DkAt code pc [92]) : decode code pc = .ok (.dup2, 1) := dk_of ((dk_bind (dk_u1 (h 0 _ rfl))).trans rfl)
theorem dk_96 {code : ByteArray} {pc : Nat} (h : DkAt code pc [96]) : decode code pc = .ok (.iadd, 1) := dk_of ((dk_bind (dk_u1 (h 0 _ rfl))).trans rfl)
theorem dk_97 {code : ByteArray} {pc : Nat} (h : DkAt code pc [97]) : decode code pc = .ok (.ladd, 1) := dk_of ((dk_bind (dk_u1 (h 0 _ rfl))).trans rfl)
theorem dk_100 {code : ByteArray} {pc : Nat} (h : DkAt code pc [100]) : decode code pc = .ok (.isub, 1) := dk_of ((dk_bind (dk_u1 (h 0 _ rfl))).trans rfl)
theorem dk_101 {code : ByteArray} {pc : Nat} (h : DkAt code pc [101]) : decode code pc = .ok (.lsub, 1) := dk_of ((dk_bind (dk_u1 (h 0 _ rfl))).trans rfl)
theorem dk_104 {code : ByteArray} {pc : Nat} (h : DkAt code pc [104]) : decode code pc = .ok (.imul, 1) := dk_of ((dk_bind (dk_u1 (h 0 _ rfl))).trans rfl)
theorem dk_105 {code : ByteArray} {pc : Nat} (h : DkAt code pc [105]) : decode code pc = .ok (.lmul, 1) := dk_of ((dk_bind (dk_u1 (h 0 _ rfl))).trans rfl)
theorem dk_106 {code : ByteArray} {pc : Nat} (h : DkAt code pc [106]) : decode code pc = .ok (.fmul, 1) := dk_of ((dk_bind (dk_u1 (h 0 _ rfl))).trans rfl)
theorem dk_108 {code : ByteArray} {pc : Nat} (h : DkAt code pc [108]) : decode code pc = .ok (.idiv, 1) := dk_of ((dk_bind (dk_u1 (h 0 _ rfl))).trans rfl)
theorem dk_109 {code : ByteArray} {pc : Nat} (h : DkAt code pc [109]) : decode code pc = .ok (.ldiv, 1) := dk_of ((dk_bind (dk_u1 (h 0 _ rfl))).trans rfl)
theorem dk_113 {code : ByteArray} {pc : Nat} (h : DkAt code pc [113]) : decode code pc = .ok (.lrem, 1) := dk_of ((dk_bind (dk_u1 (h 0 _ rfl))).trans rfl)
theorem dk_116 {code : ByteArray} {pc : Nat} (h : DkAt code pc [116]) : decode code pc = .ok (.ineg, 1) := dk_of ((dk_bind (dk_u1 (h 0 _ rfl))).trans rfl)
theorem dk_120 {code : ByteArray} {pc : Nat} (h : DkAt code pc [120]) : decode code pc = .ok (.ishl, 1) := dk_of ((dk_bind (dk_u1 (h 0 _ rfl))).trans rfl)
theorem dk_121 {code : ByteArray} {pc : Nat} (h : DkAt code pc [121]) : decode code pc = .ok (.lshl, 1) := dk_of ((dk_bind (dk_u1 (h 0 _ rfl))).trans rfl)
theorem dk_122 {code : ByteArray} {pc : Nat} (h : DkAt code pc [122]) : decode code pc = .ok (.ishr, 1) := dk_of ((dk_bind (dk_u1 (h 0 _ rfl))).trans rfl)
theorem dk_124 {code : ByteArray} {pc : Nat} (h : DkAt code pc [124]) : decode code pc = .ok (.iushr, 1) := dk_of ((dk_bind (dk_u1 (h 0 _ rfl))).trans rfl)
theorem dk_125 {code : ByteArray} {pc : Nat} (h : DkAt code pc [125]) : decode code pc = .ok (.lushr, 1) := dk_of ((dk_bind (dk_u1 (h 0 _ rfl))).trans rfl)
theorem dk_126 {code : ByteArray} {pc : Nat} (h : DkAt code pc [126]) : decode code pc = .ok (.iand, 1) := dk_of ((dk_bind (dk_u1 (h 0 _ rfl))).trans rfl)
theorem dk_127 {code : ByteArray} {pc : Nat} (h : DkAt code pc [127]) : decode code pc = .ok (.land, 1) := dk_of ((dk_bind (dk_u1 (h 0 _ rfl))).trans rfl)
theorem dk_128 {code : ByteArray} {pc : Nat} (h : DkAt code pc [128]) : decode code pc = .ok (.ior, 1) := dk_of ((dk_bind (dk_u1 (h 0 _ rfl))).trans rfl)
theorem dk_129 {code : ByteArray} {pc : Nat} (h : DkAt code pc [129]) : decode code pc = .ok (.lor, 1) := dk_of ((dk_bind (dk_u1 (h 0 _ rfl))).trans rfl)
theorem dk_130 {code : ByteArray} {pc : Nat} (h : DkAt code pc [130]) : decode code pc = .ok (.ixor, 1) := dk_of ((dk_bind (dk_u1 (h 0 _ rfl))).trans rfl)
theorem dk_131 {code : ByteArray} {pc : Nat} (h : DkAt code pc [131]) : decode code pc = .ok (.lxor, 1) := dk_of ((dk_bind (dk_u1 (h 0 _ rfl))).trans rfl)
theorem dk_132 {code : ByteArray} {pc : Nat} (a b : UInt8) (h : DkAt code pc [132, a, b]) : decode code pc = .ok (.iinc a.toNat (Reader.signed 8 b.toNat), 3) := dk_of ((dk_bind (dk_u1 (h 0 _ rfl))).trans ((dk_bind (dk_u1 (h 1 _ rfl))).trans ((dk_bind (dk_map (dk_u1 (h 2 _ rfl)))).trans rfl)))
theorem dk_133 {code : ByteArray} {pc : Nat} (h : DkAt code pc [133]) : decode code pc = .ok (.i2l, 1) := dk_of ((dk_bind (dk_u1 (h 0 _ rfl))).trans rfl)
theorem dk_134 {code : ByteArray} {pc : Nat} (h : DkAt code pc [134]) : decode code pc = .ok (.i2f, 1) := dk_of ((dk_bind (dk_u1 (h 0 _ rfl))).trans rfl)
theorem dk_136 {code : ByteArray} {pc : Nat} (h : DkAt code pc [136]) : decode code pc = .ok (.l2i, 1) := dk_of ((dk_bind (dk_u1 (h 0 _ rfl))).trans rfl)
theorem dk_139 {code : ByteArray} {pc : Nat} (h : DkAt code pc [139]) : decode code pc = .ok (.f2i, 1) := dk_of ((dk_bind (dk_u1 (h 0 _ rfl))).trans rfl)
theorem dk_145 {code : ByteArray} {pc : Nat} (h : DkAt code pc [145]) : decode code pc = .ok (.i2b, 1) := dk_of ((dk_bind (dk_u1 (h 0 _ rfl))).trans rfl)
theorem dk_146 {code : ByteArray} {pc : Nat} (h : DkAt code pc [146]) : decode code pc = .ok (.i2c, 1) := dk_of ((dk_bind (dk_u1 (h 0 _ rfl))).trans rfl)
theorem dk_148 {code : ByteArray} {pc : Nat} (h : DkAt code pc [148]) : decode code pc = .ok (.lcmp, 1) := dk_of ((dk_bind (dk_u1 (h 0 _ rfl))).trans rfl)
theorem dk_150 {code : ByteArray} {pc : Nat} (h : DkAt code pc [150]) : decode code pc = .ok (.fcmp .g, 1) := dk_of ((dk_bind (dk_u1 (h 0 _ rfl))).trans rfl)
theorem dk_153 {code : ByteArray} {pc : Nat} (a b : UInt8) (h : DkAt code pc [153, a, b]) : decode code pc = .ok (.ifCond .eq (Reader.signed 16 (a.toNat * 256 + b.toNat)), 3) := dk_of ((dk_bind (dk_u1 (h 0 _ rfl))).trans ((dk_bind (dk_map (dk_u2 (h 1 _ rfl) (h 2 _ rfl)))).trans rfl))
theorem dk_154 {code : ByteArray} {pc : Nat} (a b : UInt8) (h : DkAt code pc [154, a, b]) : decode code pc = .ok (.ifCond .ne (Reader.signed 16 (a.toNat * 256 + b.toNat)), 3) := dk_of ((dk_bind (dk_u1 (h 0 _ rfl))).trans ((dk_bind (dk_map (dk_u2 (h 1 _ rfl) (h 2 _ rfl)))).trans rfl))
theorem dk_155 {code : ByteArray} {pc : Nat} (a b : UInt8) (h : DkAt code pc [155, a, b]) : decode code pc = .ok (.ifCond .lt (Reader.signed 16 (a.toNat * 256 + b.toNat)), 3) := dk_of ((dk_bind (dk_u1 (h 0 _ rfl))).trans ((dk_bind (dk_map (dk_u2 (h 1 _ rfl) (h 2 _ rfl)))).trans rfl))
theorem dk_156 {code : ByteArray} {pc : Nat} (a b : UInt8) (h : DkAt code pc [156, a, b]) : decode code pc = .ok (.ifCond .ge (Reader.signed 16 (a.toNat * 256 + b.toNat)), 3) := dk_of ((dk_bind (dk_u1 (h 0 _ rfl))).trans ((dk_bind (dk_map (dk_u2 (h 1 _ rfl) (h 2 _ rfl)))).trans rfl))
theorem dk_157 {code : ByteArray} {pc : Nat} (a b : UInt8) (h : DkAt code pc [157, a, b]) : decode code pc = .ok (.ifCond .gt (Reader.signed 16 (a.toNat * 256 + b.toNat)), 3) := dk_of ((dk_bind (dk_u1 (h 0 _ rfl))).trans ((dk_bind (dk_map (dk_u2 (h 1 _ rfl) (h 2 _ rfl)))).trans rfl))
theorem dk_158 {code : ByteArray} {pc : Nat} (a b : UInt8) (h : DkAt code pc [158, a, b]) : decode code pc = .ok (.ifCond .le (Reader.signed 16 (a.toNat * 256 + b.toNat)), 3) := dk_of ((dk_bind (dk_u1 (h 0 _ rfl))).trans ((dk_bind (dk_map (dk_u2 (h 1 _ rfl) (h 2 _ rfl)))).trans rfl))
theorem dk_159 {code : ByteArray} {pc : Nat} (a b : UInt8) (h : DkAt code pc [159, a, b]) : decode code pc = .ok (.if_icmp .eq (Reader.signed 16 (a.toNat * 256 + b.toNat)), 3) := dk_of ((dk_bind (dk_u1 (h 0 _ rfl))).trans ((dk_bind (dk_map (dk_u2 (h 1 _ rfl) (h 2 _ rfl)))).trans rfl))
theorem dk_160 {code : ByteArray} {pc : Nat} (a b : UInt8) (h : DkAt code pc [160, a, b]) : decode code pc = .ok (.if_icmp .ne (Reader.signed 16 (a.toNat * 256 + b.toNat)), 3) := dk_of ((dk_bind (dk_u1 (h 0 _ rfl))).trans ((dk_bind (dk_map (dk_u2 (h 1 _ rfl) (h 2 _ rfl)))).trans rfl))
theorem dk_161 {code : ByteArray} {pc : Nat} (a b : UInt8) (h : DkAt code pc [161, a, b]) : decode code pc = .ok (.if_icmp .lt (Reader.signed 16 (a.toNat * 256 + b.toNat)), 3) := dk_of ((dk_bind (dk_u1 (h 0 _ rfl))).trans ((dk_bind (dk_map (dk_u2 (h 1 _ rfl) (h 2 _ rfl)))).trans rfl))
theorem dk_162 {code : ByteArray} {pc : Nat} (a b : UInt8) (h : DkAt code pc [162, a, b]) : decode code pc = .ok (.if_icmp .ge (Reader.signed 16 (a.toNat * 256 + b.toNat)), 3) := dk_of ((dk_bind (dk_u1 (h 0 _ rfl))).trans ((dk_bind (dk_map (dk_u2 (h 1 _ rfl) (h 2 _ rfl)))).trans rfl))
theorem dk_163 {code : ByteArray} {pc : Nat} (a b : UInt8) (h : DkAt code pc [163, a, b]) : decode code pc = .ok (.if_icmp .gt (Reader.signed 16 (a.toNat * 256 + b.toNat)), 3) := dk_of ((dk_bind (dk_u1 (h 0 _ rfl))).trans ((dk_bind (dk_map (dk_u2 (h 1 _ rfl) (h 2 _ rfl)))).trans rfl))
theorem dk_164 {code : ByteArray} {pc : Nat} (a b : UInt8) (h : DkAt code pc [164, a, b]) : decode code pc = .ok (.if_icmp .le (Reader.signed 16 (a.toNat * 256 + b.toNat)), 3) := dk_of ((dk_bind (dk_u1 (h 0 _ rfl))).trans ((dk_bind (dk_map (dk_u2 (h 1 _ rfl) (h 2 _ rfl)))).trans rfl))
theorem dk_165 {code : ByteArray} {pc : Nat} (a b : UInt8) (h : DkAt code pc [165, a, b]) : decode code pc = .ok (.if_acmp .eq (Reader.signed 16 (a.toNat * 256 + b.toNat)), 3) := dk_of ((dk_bind (dk_u1 (h 0 _ rfl))).trans ((dk_bind (dk_map (dk_u2 (h 1 _ rfl) (h 2 _ rfl)))).trans rfl))
theorem dk_166 {code : ByteArray} {pc : Nat} (a b : UInt8) (h : DkAt code pc [166, a, b]) : decode code pc = .ok (.if_acmp .ne (Reader.signed 16 (a.toNat * 256 + b.toNat)), 3) := dk_of ((dk_bind (dk_u1 (h 0 _ rfl))).trans ((dk_bind (dk_map (dk_u2 (h 1 _ rfl) (h 2 _ rfl)))).trans rfl))
theorem dk_167 {code : ByteArray} {pc : Nat} (a b : UInt8) (h : DkAt code pc [167, a, b]) : decode code pc = .ok (.goto (Reader.signed 16 (a.toNat * 256 + b.toNat)), 3) := dk_of ((dk_bind (dk_u1 (h 0 _ rfl))).trans ((dk_bind (dk_map (dk_u2 (h 1 _ rfl) (h 2 _ rfl)))).trans rfl))
theorem dk_172 {code : ByteArray} {pc : Nat} (h : DkAt code pc [172]) : decode code pc = .ok (.ireturn, 1) := dk_of ((dk_bind (dk_u1 (h 0 _ rfl))).trans rfl)
theorem dk_173 {code : ByteArray} {pc : Nat} (h : DkAt code pc [173]) : decode code pc = .ok (.lreturn, 1) := dk_of ((dk_bind (dk_u1 (h 0 _ rfl))).trans rfl)
theorem dk_176 {code : ByteArray} {pc : Nat} (h : DkAt code pc [176]) : decode code pc = .ok (.areturn, 1) := dk_of ((dk_bind (dk_u1 (h 0 _ rfl))).trans rfl)
theorem dk_177 {code : ByteArray} {pc : Nat} (h : DkAt code pc [177]) : decode code pc = .ok (.return_, 1) := dk_of ((dk_bind (dk_u1 (h 0 _ rfl))).trans rfl)
theorem dk_178 {code : ByteArray} {pc : Nat} (a b : UInt8) (h : DkAt code pc [178, a, b]) : decode code pc = .ok (.getstatic (a.toNat * 256 + b.toNat), 3) := dk_of ((dk_bind (dk_u1 (h 0 _ rfl))).trans ((dk_bind (dk_u2 (h 1 _ rfl) (h 2 _ rfl))).trans rfl))
theorem dk_180 {code : ByteArray} {pc : Nat} (a b : UInt8) (h : DkAt code pc [180, a, b]) : decode code pc = .ok (.getfield (a.toNat * 256 + b.toNat), 3) := dk_of ((dk_bind (dk_u1 (h 0 _ rfl))).trans ((dk_bind (dk_u2 (h 1 _ rfl) (h 2 _ rfl))).trans rfl))
theorem dk_181 {code : ByteArray} {pc : Nat} (a b : UInt8) (h : DkAt code pc [181, a, b]) : decode code pc = .ok (.putfield (a.toNat * 256 + b.toNat), 3) := dk_of ((dk_bind (dk_u1 (h 0 _ rfl))).trans ((dk_bind (dk_u2 (h 1 _ rfl) (h 2 _ rfl))).trans rfl))
theorem dk_182 {code : ByteArray} {pc : Nat} (a b : UInt8) (h : DkAt code pc [182, a, b]) : decode code pc = .ok (.invokevirtual (a.toNat * 256 + b.toNat), 3) := dk_of ((dk_bind (dk_u1 (h 0 _ rfl))).trans ((dk_bind (dk_u2 (h 1 _ rfl) (h 2 _ rfl))).trans rfl))
theorem dk_183 {code : ByteArray} {pc : Nat} (a b : UInt8) (h : DkAt code pc [183, a, b]) : decode code pc = .ok (.invokespecial (a.toNat * 256 + b.toNat), 3) := dk_of ((dk_bind (dk_u1 (h 0 _ rfl))).trans ((dk_bind (dk_u2 (h 1 _ rfl) (h 2 _ rfl))).trans rfl))
theorem dk_184 {code : ByteArray} {pc : Nat} (a b : UInt8) (h : DkAt code pc [184, a, b]) : decode code pc = .ok (.invokestatic (a.toNat * 256 + b.toNat), 3) := dk_of ((dk_bind (dk_u1 (h 0 _ rfl))).trans ((dk_bind (dk_u2 (h 1 _ rfl) (h 2 _ rfl))).trans rfl))
theorem dk_187 {code : ByteArray} {pc : Nat} (a b : UInt8) (h : DkAt code pc [187, a, b]) : decode code pc = .ok (.new (a.toNat * 256 + b.toNat), 3) := dk_of ((dk_bind (dk_u1 (h 0 _ rfl))).trans ((dk_bind (dk_u2 (h 1 _ rfl) (h 2 _ rfl))).trans rfl))
theorem dk_188_4 {code : ByteArray} {pc : Nat} (h : DkAt code pc [188, 4]) : decode code pc = .ok (.newarray .boolean, 2) := dk_of ((dk_bind (dk_u1 (h 0 _ rfl))).trans ((dk_bind (dk_u1 (h 1 _ rfl))).trans rfl))
theorem dk_188_8 {code : ByteArray} {pc : Nat} (h : DkAt code pc [188, 8]) : decode code pc = .ok (.newarray .byte, 2) := dk_of ((dk_bind (dk_u1 (h 0 _ rfl))).trans ((dk_bind (dk_u1 (h 1 _ rfl))).trans rfl))
theorem dk_188_10 {code : ByteArray} {pc : Nat} (h : DkAt code pc [188, 10]) : decode code pc = .ok (.newarray .int, 2) := dk_of ((dk_bind (dk_u1 (h 0 _ rfl))).trans ((dk_bind (dk_u1 (h 1 _ rfl))).trans rfl))
theorem dk_188_11 {code : ByteArray} {pc : Nat} (h : DkAt code pc [188, 11]) : decode code pc = .ok (.newarray .long, 2) := dk_of ((dk_bind (dk_u1 (h 0 _ rfl))).trans ((dk_bind (dk_u1 (h 1 _ rfl))).trans rfl))
theorem dk_189 {code : ByteArray} {pc : Nat} (a b : UInt8) (h : DkAt code pc [189, a, b]) : decode code pc = .ok (.anewarray (a.toNat * 256 + b.toNat), 3) := dk_of ((dk_bind (dk_u1 (h 0 _ rfl))).trans ((dk_bind (dk_u2 (h 1 _ rfl) (h 2 _ rfl))).trans rfl))
theorem dk_190 {code : ByteArray} {pc : Nat} (h : DkAt code pc [190]) : decode code pc = .ok (.arraylength, 1) := dk_of ((dk_bind (dk_u1 (h 0 _ rfl))).trans rfl)
theorem dk_191 {code : ByteArray} {pc : Nat} (h : DkAt code pc [191]) : decode code pc = .ok (.athrow, 1) := dk_of ((dk_bind (dk_u1 (h 0 _ rfl))).trans rfl)
theorem dk_192 {code : ByteArray} {pc : Nat} (a b : UInt8) (h : DkAt code pc [192, a, b]) : decode code pc = .ok (.checkcast (a.toNat * 256 + b.toNat), 3) := dk_of ((dk_bind (dk_u1 (h 0 _ rfl))).trans ((dk_bind (dk_u2 (h 1 _ rfl) (h 2 _ rfl))).trans rfl))
theorem dk_193 {code : ByteArray} {pc : Nat} (a b : UInt8) (h : DkAt code pc [193, a, b]) : decode code pc = .ok (.instanceof (a.toNat * 256 + b.toNat), 3) := dk_of ((dk_bind (dk_u1 (h 0 _ rfl))).trans ((dk_bind (dk_u2 (h 1 _ rfl) (h 2 _ rfl))).trans rfl))
theorem dk_198 {code : ByteArray} {pc : Nat} (a b : UInt8) (h : DkAt code pc [198, a, b]) : decode code pc = .ok (.ifnull (Reader.signed 16 (a.toNat * 256 + b.toNat)), 3) := dk_of ((dk_bind (dk_u1 (h 0 _ rfl))).trans ((dk_bind (dk_map (dk_u2 (h 1 _ rfl) (h 2 _ rfl)))).trans rfl))
theorem dk_199 {code : ByteArray} {pc : Nat} (a b : UInt8) (h : DkAt code pc [199, a, b]) : decode code pc = .ok (.ifnonnull (Reader.signed 16 (a.toNat * 256 + b.toNat)), 3) := dk_of ((dk_bind (dk_u1 (h 0 _ rfl))).trans ((dk_bind (dk_map (dk_u2 (h 1 _ rfl) (h 2 _ rfl)))).trans rfl))

/-! AnimationController -/
set_option maxRecDepth 100000
def RX1 : String := "AnimationController"
def TX1 : u_T := fun k => match k with
  | 0 => ("AnimationController", "parameters", "Ljava/util/ArrayList;", true)
  | 1 => ("AnimationController", "clips", "Ljava/util/ArrayList;", true)
  | 2 => ("AnimationController", "nodes", "Ljava/util/ArrayList;", true)
  | 3 => ("AnimationController", "states", "Ljava/util/ArrayList;", true)
  | 4 => ("AnimationController", "transitions", "Ljava/util/ArrayList;", true)
  | 5 => ("AnimationController", "threshold", "I", false)
  | 6 => ("AnimationController", "machine", "LAnimationController$Machine;", false)
  | 7 => ("AnimationController", "pose", "LAnimationController$Pose;", true)
  | 8 => ("AnimationController", "parts", "LAnimationController$Blend;", true)
  | 9 => ("AnimationController", "events", "LAnimationController$Blend;", true)
  | 10 => ("AnimationController", "lengths", "LAnimationController$Blend;", true)
  | 11 => ("AnimationController", "images", "Ljava/util/LinkedHashMap;", true)
  | _ => ("AnimationController", "text", "Ljava/lang/StringBuilder;", true)
def tyX1 : Nat → FieldType := fun k => match k with
  | 0 => .object "java/util/ArrayList"
  | 1 => .object "java/util/ArrayList"
  | 2 => .object "java/util/ArrayList"
  | 3 => .object "java/util/ArrayList"
  | 4 => .object "java/util/ArrayList"
  | 5 => .int
  | 6 => .object "AnimationController$Machine"
  | 7 => .object "AnimationController$Pose"
  | 8 => .object "AnimationController$Blend"
  | 9 => .object "AnimationController$Blend"
  | 10 => .object "AnimationController$Blend"
  | 11 => .object "java/util/LinkedHashMap"
  | _ => .object "java/lang/StringBuilder"
abbrev wsX10 : List Cond := u_ws RX1 TX1 13
set_option maxRecDepth 100000 in
theorem nmX1 : ∀ a, a < 13 → ∀ b, b < 13 → a ≠ b → (TX1 a).2.1 ≠ (TX1 b).2.1 := by decide +kernel
set_option maxRecDepth 100000 in
theorem tyX1_ok : ∀ k, k < 13 → parseFieldDescriptor (TX1 k).2.2.1 = some (tyX1 k) := by decide +kernel
abbrev cX1_init : ByteArray := prog_1_method_6_code
def yX1_init : MethodName := ⟨RX1, "<init>", "()V"⟩
def dkwX1_init_6 : List UInt8 := [183, 0, 78, 181, 0, 79, 177]
abbrev dktX1_init_6 : List UInt8 := dkwX1_init_6 ++ []
def dkwX1_init_5 : List UInt8 := [181, 0, 66, 42, 187, 0, 69, 89, 183, 0, 71, 181, 0, 72, 42, 187, 0, 76, 89, 17, 0, 150]
abbrev dktX1_init_5 : List UInt8 := dkwX1_init_5 ++ dktX1_init_6
def dkwX1_init_4 : List UInt8 := [181, 0, 59, 42, 187, 0, 54, 89, 42, 183, 0, 56, 181, 0, 63, 42, 187, 0, 54, 89, 42, 183, 0, 56]
abbrev dktX1_init_4 : List UInt8 := dkwX1_init_4 ++ dktX1_init_5
def dkwX1_init_3 : List UInt8 := [181, 0, 43, 42, 187, 0, 47, 89, 183, 0, 49, 181, 0, 50, 42, 187, 0, 54, 89, 42, 183, 0, 56]
abbrev dktX1_init_3 : List UInt8 := dkwX1_init_3 ++ dktX1_init_4
def dkwX1_init_2 : List UInt8 := [16, 10, 183, 0, 24, 181, 0, 37, 42, 187, 0, 22, 89, 16, 24, 183, 0, 24, 181, 0, 40, 42, 4]
abbrev dktX1_init_2 : List UInt8 := dkwX1_init_2 ++ dktX1_init_3
def dkwX1_init_1 : List UInt8 := [183, 0, 24, 181, 0, 31, 42, 187, 0, 22, 89, 16, 20, 183, 0, 24, 181, 0, 34, 42, 187, 0, 22, 89]
abbrev dktX1_init_1 : List UInt8 := dkwX1_init_1 ++ dktX1_init_2
def dkwX1_init_0 : List UInt8 := [42, 183, 0, 19, 42, 187, 0, 22, 89, 16, 8, 183, 0, 24, 181, 0, 27, 42, 187, 0, 22, 89, 16, 12]
abbrev dktX1_init_0 : List UInt8 := dkwX1_init_0 ++ dktX1_init_1
theorem dksX1_init_0 : cX1_init.data.toList.drop 0 = dktX1_init_0 := by decide +kernel
theorem dksX1_init_1 : cX1_init.data.toList.drop 24 = dktX1_init_1 := dk_seg dksX1_init_0 24 rfl rfl
theorem dksX1_init_2 : cX1_init.data.toList.drop 48 = dktX1_init_2 := dk_seg dksX1_init_1 24 rfl rfl
theorem dksX1_init_3 : cX1_init.data.toList.drop 71 = dktX1_init_3 := dk_seg dksX1_init_2 23 rfl rfl
theorem dksX1_init_4 : cX1_init.data.toList.drop 94 = dktX1_init_4 := dk_seg dksX1_init_3 23 rfl rfl
theorem dksX1_init_5 : cX1_init.data.toList.drop 118 = dktX1_init_5 := dk_seg dksX1_init_4 24 rfl rfl
theorem dksX1_init_6 : cX1_init.data.toList.drop 140 = dktX1_init_6 := dk_seg dksX1_init_5 22 rfl rfl
theorem dX1_init_0 : decode cX1_init 0 = .ok (.aload_n 0, 1) := dk_42 (dk_at dksX1_init_0 0 rfl rfl)
theorem dX1_init_1 : decode cX1_init 1 = .ok (.invokespecial 19, 3) := dk_183 0 19 (dk_at dksX1_init_0 1 rfl rfl)
theorem dX1_init_4 : decode cX1_init 4 = .ok (.aload_n 0, 1) := dk_42 (dk_at dksX1_init_0 4 rfl rfl)
theorem dX1_init_5 : decode cX1_init 5 = .ok (.new 22, 3) := dk_187 0 22 (dk_at dksX1_init_0 5 rfl rfl)
theorem dX1_init_8 : decode cX1_init 8 = .ok (.dup, 1) := dk_89 (dk_at dksX1_init_0 8 rfl rfl)
theorem dX1_init_9 : decode cX1_init 9 = .ok (.bipush 8, 2) := dk_16 8 (dk_at dksX1_init_0 9 rfl rfl)
theorem dX1_init_11 : decode cX1_init 11 = .ok (.invokespecial 24, 3) := dk_183 0 24 (dk_at dksX1_init_0 11 rfl rfl)
theorem dX1_init_14 : decode cX1_init 14 = .ok (.putfield 27, 3) := dk_181 0 27 (dk_at dksX1_init_0 14 rfl rfl)
theorem dX1_init_17 : decode cX1_init 17 = .ok (.aload_n 0, 1) := dk_42 (dk_at dksX1_init_0 17 rfl rfl)
theorem dX1_init_18 : decode cX1_init 18 = .ok (.new 22, 3) := dk_187 0 22 (dk_at dksX1_init_0 18 rfl rfl)
theorem dX1_init_21 : decode cX1_init 21 = .ok (.dup, 1) := dk_89 (dk_at dksX1_init_0 21 rfl rfl)
theorem dX1_init_22 : decode cX1_init 22 = .ok (.bipush 12, 2) := dk_16 12 (dk_at dksX1_init_0 22 rfl rfl)
theorem dX1_init_24 : decode cX1_init 24 = .ok (.invokespecial 24, 3) := dk_183 0 24 (dk_at dksX1_init_1 0 rfl rfl)
theorem dX1_init_27 : decode cX1_init 27 = .ok (.putfield 31, 3) := dk_181 0 31 (dk_at dksX1_init_1 3 rfl rfl)
theorem dX1_init_30 : decode cX1_init 30 = .ok (.aload_n 0, 1) := dk_42 (dk_at dksX1_init_1 6 rfl rfl)
theorem dX1_init_31 : decode cX1_init 31 = .ok (.new 22, 3) := dk_187 0 22 (dk_at dksX1_init_1 7 rfl rfl)
theorem dX1_init_34 : decode cX1_init 34 = .ok (.dup, 1) := dk_89 (dk_at dksX1_init_1 10 rfl rfl)
theorem dX1_init_35 : decode cX1_init 35 = .ok (.bipush 20, 2) := dk_16 20 (dk_at dksX1_init_1 11 rfl rfl)
theorem dX1_init_37 : decode cX1_init 37 = .ok (.invokespecial 24, 3) := dk_183 0 24 (dk_at dksX1_init_1 13 rfl rfl)
theorem dX1_init_40 : decode cX1_init 40 = .ok (.putfield 34, 3) := dk_181 0 34 (dk_at dksX1_init_1 16 rfl rfl)
theorem dX1_init_43 : decode cX1_init 43 = .ok (.aload_n 0, 1) := dk_42 (dk_at dksX1_init_1 19 rfl rfl)
theorem dX1_init_44 : decode cX1_init 44 = .ok (.new 22, 3) := dk_187 0 22 (dk_at dksX1_init_1 20 rfl rfl)
theorem dX1_init_47 : decode cX1_init 47 = .ok (.dup, 1) := dk_89 (dk_at dksX1_init_1 23 rfl rfl)
theorem dX1_init_48 : decode cX1_init 48 = .ok (.bipush 10, 2) := dk_16 10 (dk_at dksX1_init_2 0 rfl rfl)
theorem dX1_init_50 : decode cX1_init 50 = .ok (.invokespecial 24, 3) := dk_183 0 24 (dk_at dksX1_init_2 2 rfl rfl)
theorem dX1_init_53 : decode cX1_init 53 = .ok (.putfield 37, 3) := dk_181 0 37 (dk_at dksX1_init_2 5 rfl rfl)
theorem dX1_init_56 : decode cX1_init 56 = .ok (.aload_n 0, 1) := dk_42 (dk_at dksX1_init_2 8 rfl rfl)
theorem dX1_init_57 : decode cX1_init 57 = .ok (.new 22, 3) := dk_187 0 22 (dk_at dksX1_init_2 9 rfl rfl)
theorem dX1_init_60 : decode cX1_init 60 = .ok (.dup, 1) := dk_89 (dk_at dksX1_init_2 12 rfl rfl)
theorem dX1_init_61 : decode cX1_init 61 = .ok (.bipush 24, 2) := dk_16 24 (dk_at dksX1_init_2 13 rfl rfl)
theorem dX1_init_63 : decode cX1_init 63 = .ok (.invokespecial 24, 3) := dk_183 0 24 (dk_at dksX1_init_2 15 rfl rfl)
theorem dX1_init_66 : decode cX1_init 66 = .ok (.putfield 40, 3) := dk_181 0 40 (dk_at dksX1_init_2 18 rfl rfl)
theorem dX1_init_69 : decode cX1_init 69 = .ok (.aload_n 0, 1) := dk_42 (dk_at dksX1_init_2 21 rfl rfl)
theorem dX1_init_70 : decode cX1_init 70 = .ok (.iconst 1, 1) := dk_4 (dk_at dksX1_init_2 22 rfl rfl)
theorem dX1_init_71 : decode cX1_init 71 = .ok (.putfield 43, 3) := dk_181 0 43 (dk_at dksX1_init_3 0 rfl rfl)
theorem dX1_init_74 : decode cX1_init 74 = .ok (.aload_n 0, 1) := dk_42 (dk_at dksX1_init_3 3 rfl rfl)
theorem dX1_init_75 : decode cX1_init 75 = .ok (.new 47, 3) := dk_187 0 47 (dk_at dksX1_init_3 4 rfl rfl)
theorem dX1_init_78 : decode cX1_init 78 = .ok (.dup, 1) := dk_89 (dk_at dksX1_init_3 7 rfl rfl)
theorem dX1_init_79 : decode cX1_init 79 = .ok (.invokespecial 49, 3) := dk_183 0 49 (dk_at dksX1_init_3 8 rfl rfl)
theorem dX1_init_82 : decode cX1_init 82 = .ok (.putfield 50, 3) := dk_181 0 50 (dk_at dksX1_init_3 11 rfl rfl)
theorem dX1_init_85 : decode cX1_init 85 = .ok (.aload_n 0, 1) := dk_42 (dk_at dksX1_init_3 14 rfl rfl)
theorem dX1_init_86 : decode cX1_init 86 = .ok (.new 54, 3) := dk_187 0 54 (dk_at dksX1_init_3 15 rfl rfl)
theorem dX1_init_89 : decode cX1_init 89 = .ok (.dup, 1) := dk_89 (dk_at dksX1_init_3 18 rfl rfl)
theorem dX1_init_90 : decode cX1_init 90 = .ok (.aload_n 0, 1) := dk_42 (dk_at dksX1_init_3 19 rfl rfl)
theorem dX1_init_91 : decode cX1_init 91 = .ok (.invokespecial 56, 3) := dk_183 0 56 (dk_at dksX1_init_3 20 rfl rfl)
theorem dX1_init_94 : decode cX1_init 94 = .ok (.putfield 59, 3) := dk_181 0 59 (dk_at dksX1_init_4 0 rfl rfl)
theorem dX1_init_97 : decode cX1_init 97 = .ok (.aload_n 0, 1) := dk_42 (dk_at dksX1_init_4 3 rfl rfl)
theorem dX1_init_98 : decode cX1_init 98 = .ok (.new 54, 3) := dk_187 0 54 (dk_at dksX1_init_4 4 rfl rfl)
theorem dX1_init_101 : decode cX1_init 101 = .ok (.dup, 1) := dk_89 (dk_at dksX1_init_4 7 rfl rfl)
theorem dX1_init_102 : decode cX1_init 102 = .ok (.aload_n 0, 1) := dk_42 (dk_at dksX1_init_4 8 rfl rfl)
theorem dX1_init_103 : decode cX1_init 103 = .ok (.invokespecial 56, 3) := dk_183 0 56 (dk_at dksX1_init_4 9 rfl rfl)
theorem dX1_init_106 : decode cX1_init 106 = .ok (.putfield 63, 3) := dk_181 0 63 (dk_at dksX1_init_4 12 rfl rfl)
theorem dX1_init_109 : decode cX1_init 109 = .ok (.aload_n 0, 1) := dk_42 (dk_at dksX1_init_4 15 rfl rfl)
theorem dX1_init_110 : decode cX1_init 110 = .ok (.new 54, 3) := dk_187 0 54 (dk_at dksX1_init_4 16 rfl rfl)
theorem dX1_init_113 : decode cX1_init 113 = .ok (.dup, 1) := dk_89 (dk_at dksX1_init_4 19 rfl rfl)
theorem dX1_init_114 : decode cX1_init 114 = .ok (.aload_n 0, 1) := dk_42 (dk_at dksX1_init_4 20 rfl rfl)
theorem dX1_init_115 : decode cX1_init 115 = .ok (.invokespecial 56, 3) := dk_183 0 56 (dk_at dksX1_init_4 21 rfl rfl)
theorem dX1_init_118 : decode cX1_init 118 = .ok (.putfield 66, 3) := dk_181 0 66 (dk_at dksX1_init_5 0 rfl rfl)
theorem dX1_init_121 : decode cX1_init 121 = .ok (.aload_n 0, 1) := dk_42 (dk_at dksX1_init_5 3 rfl rfl)
theorem dX1_init_122 : decode cX1_init 122 = .ok (.new 69, 3) := dk_187 0 69 (dk_at dksX1_init_5 4 rfl rfl)
theorem dX1_init_125 : decode cX1_init 125 = .ok (.dup, 1) := dk_89 (dk_at dksX1_init_5 7 rfl rfl)
theorem dX1_init_126 : decode cX1_init 126 = .ok (.invokespecial 71, 3) := dk_183 0 71 (dk_at dksX1_init_5 8 rfl rfl)
theorem dX1_init_129 : decode cX1_init 129 = .ok (.putfield 72, 3) := dk_181 0 72 (dk_at dksX1_init_5 11 rfl rfl)
theorem dX1_init_132 : decode cX1_init 132 = .ok (.aload_n 0, 1) := dk_42 (dk_at dksX1_init_5 14 rfl rfl)
theorem dX1_init_133 : decode cX1_init 133 = .ok (.new 76, 3) := dk_187 0 76 (dk_at dksX1_init_5 15 rfl rfl)
theorem dX1_init_136 : decode cX1_init 136 = .ok (.dup, 1) := dk_89 (dk_at dksX1_init_5 18 rfl rfl)
theorem dX1_init_137 : decode cX1_init 137 = .ok (.sipush 150, 3) := dk_17 0 150 (dk_at dksX1_init_5 19 rfl rfl)
theorem dX1_init_140 : decode cX1_init 140 = .ok (.invokespecial 78, 3) := dk_183 0 78 (dk_at dksX1_init_6 0 rfl rfl)
theorem dX1_init_143 : decode cX1_init 143 = .ok (.putfield 79, 3) := dk_181 0 79 (dk_at dksX1_init_6 3 rfl rfl)
theorem dX1_init_146 : decode cX1_init 146 = .ok (.return_, 1) := dk_177 (dk_at dksX1_init_6 6 rfl rfl)
abbrev cX1_reset : ByteArray := prog_1_method_33_code
def yX1_reset : MethodName := ⟨RX1, "reset", "()I"⟩
def dkwX1_reset_3 : List UInt8 := [42, 180, 0, 37, 3, 182, 0, 107, 192, 0, 201, 183, 0, 208, 181, 0, 211, 27, 172]
abbrev dktX1_reset_3 : List UInt8 := dkwX1_reset_3 ++ []
def dkwX1_reset_2 : List UInt8 := [180, 0, 211, 180, 1, 50, 60, 42, 42, 180, 0, 211, 199, 0, 7, 1, 167, 0, 22, 187, 0, 206, 89, 42]
abbrev dktX1_reset_2 : List UInt8 := dkwX1_reset_2 ++ dktX1_reset_3
def dkwX1_reset_1 : List UInt8 := [3, 181, 0, 119, 132, 1, 1, 167, 255, 227, 42, 180, 0, 211, 199, 0, 7, 3, 167, 0, 10, 42]
abbrev dktX1_reset_1 : List UInt8 := dkwX1_reset_1 ++ dktX1_reset_2
def dkwX1_reset_0 : List UInt8 := [3, 60, 27, 42, 180, 0, 27, 182, 0, 89, 162, 0, 24, 42, 180, 0, 27, 27, 182, 0, 107, 192, 0, 96]
abbrev dktX1_reset_0 : List UInt8 := dkwX1_reset_0 ++ dktX1_reset_1
theorem dksX1_reset_0 : cX1_reset.data.toList.drop 0 = dktX1_reset_0 := by decide +kernel
theorem dksX1_reset_1 : cX1_reset.data.toList.drop 24 = dktX1_reset_1 := dk_seg dksX1_reset_0 24 rfl rfl
theorem dksX1_reset_2 : cX1_reset.data.toList.drop 46 = dktX1_reset_2 := dk_seg dksX1_reset_1 22 rfl rfl
theorem dksX1_reset_3 : cX1_reset.data.toList.drop 70 = dktX1_reset_3 := dk_seg dksX1_reset_2 24 rfl rfl
theorem dX1_reset_0 : decode cX1_reset 0 = .ok (.iconst 0, 1) := dk_3 (dk_at dksX1_reset_0 0 rfl rfl)
theorem dX1_reset_1 : decode cX1_reset 1 = .ok (.istore_n 1, 1) := dk_60 (dk_at dksX1_reset_0 1 rfl rfl)
theorem dX1_reset_2 : decode cX1_reset 2 = .ok (.iload_n 1, 1) := dk_27 (dk_at dksX1_reset_0 2 rfl rfl)
theorem dX1_reset_3 : decode cX1_reset 3 = .ok (.aload_n 0, 1) := dk_42 (dk_at dksX1_reset_0 3 rfl rfl)
theorem dX1_reset_4 : decode cX1_reset 4 = .ok (.getfield 27, 3) := dk_180 0 27 (dk_at dksX1_reset_0 4 rfl rfl)
theorem dX1_reset_7 : decode cX1_reset 7 = .ok (.invokevirtual 89, 3) := dk_182 0 89 (dk_at dksX1_reset_0 7 rfl rfl)
theorem dX1_reset_10 : decode cX1_reset 10 = .ok (.if_icmp .ge 24, 3) := dk_162 0 24 (dk_at dksX1_reset_0 10 rfl rfl)
theorem dX1_reset_13 : decode cX1_reset 13 = .ok (.aload_n 0, 1) := dk_42 (dk_at dksX1_reset_0 13 rfl rfl)
theorem dX1_reset_14 : decode cX1_reset 14 = .ok (.getfield 27, 3) := dk_180 0 27 (dk_at dksX1_reset_0 14 rfl rfl)
theorem dX1_reset_17 : decode cX1_reset 17 = .ok (.iload_n 1, 1) := dk_27 (dk_at dksX1_reset_0 17 rfl rfl)
theorem dX1_reset_18 : decode cX1_reset 18 = .ok (.invokevirtual 107, 3) := dk_182 0 107 (dk_at dksX1_reset_0 18 rfl rfl)
theorem dX1_reset_21 : decode cX1_reset 21 = .ok (.checkcast 96, 3) := dk_192 0 96 (dk_at dksX1_reset_0 21 rfl rfl)
theorem dX1_reset_24 : decode cX1_reset 24 = .ok (.iconst 0, 1) := dk_3 (dk_at dksX1_reset_1 0 rfl rfl)
theorem dX1_reset_25 : decode cX1_reset 25 = .ok (.putfield 119, 3) := dk_181 0 119 (dk_at dksX1_reset_1 1 rfl rfl)
theorem dX1_reset_28 : decode cX1_reset 28 = .ok (.iinc 1 1, 3) := dk_132 1 1 (dk_at dksX1_reset_1 4 rfl rfl)
theorem dX1_reset_31 : decode cX1_reset 31 = .ok (.goto (-29), 3) := dk_167 255 227 (dk_at dksX1_reset_1 7 rfl rfl)
theorem dX1_reset_34 : decode cX1_reset 34 = .ok (.aload_n 0, 1) := dk_42 (dk_at dksX1_reset_1 10 rfl rfl)
theorem dX1_reset_35 : decode cX1_reset 35 = .ok (.getfield 211, 3) := dk_180 0 211 (dk_at dksX1_reset_1 11 rfl rfl)
theorem dX1_reset_38 : decode cX1_reset 38 = .ok (.ifnonnull 7, 3) := dk_199 0 7 (dk_at dksX1_reset_1 14 rfl rfl)
theorem dX1_reset_41 : decode cX1_reset 41 = .ok (.iconst 0, 1) := dk_3 (dk_at dksX1_reset_1 17 rfl rfl)
theorem dX1_reset_42 : decode cX1_reset 42 = .ok (.goto 10, 3) := dk_167 0 10 (dk_at dksX1_reset_1 18 rfl rfl)
theorem dX1_reset_45 : decode cX1_reset 45 = .ok (.aload_n 0, 1) := dk_42 (dk_at dksX1_reset_1 21 rfl rfl)
theorem dX1_reset_46 : decode cX1_reset 46 = .ok (.getfield 211, 3) := dk_180 0 211 (dk_at dksX1_reset_2 0 rfl rfl)
theorem dX1_reset_49 : decode cX1_reset 49 = .ok (.getfield 306, 3) := dk_180 1 50 (dk_at dksX1_reset_2 3 rfl rfl)
theorem dX1_reset_52 : decode cX1_reset 52 = .ok (.istore_n 1, 1) := dk_60 (dk_at dksX1_reset_2 6 rfl rfl)
theorem dX1_reset_53 : decode cX1_reset 53 = .ok (.aload_n 0, 1) := dk_42 (dk_at dksX1_reset_2 7 rfl rfl)
theorem dX1_reset_54 : decode cX1_reset 54 = .ok (.aload_n 0, 1) := dk_42 (dk_at dksX1_reset_2 8 rfl rfl)
theorem dX1_reset_55 : decode cX1_reset 55 = .ok (.getfield 211, 3) := dk_180 0 211 (dk_at dksX1_reset_2 9 rfl rfl)
theorem dX1_reset_58 : decode cX1_reset 58 = .ok (.ifnonnull 7, 3) := dk_199 0 7 (dk_at dksX1_reset_2 12 rfl rfl)
theorem dX1_reset_61 : decode cX1_reset 61 = .ok (.aconst_null, 1) := dk_1 (dk_at dksX1_reset_2 15 rfl rfl)
theorem dX1_reset_62 : decode cX1_reset 62 = .ok (.goto 22, 3) := dk_167 0 22 (dk_at dksX1_reset_2 16 rfl rfl)
theorem dX1_reset_65 : decode cX1_reset 65 = .ok (.new 206, 3) := dk_187 0 206 (dk_at dksX1_reset_2 19 rfl rfl)
theorem dX1_reset_68 : decode cX1_reset 68 = .ok (.dup, 1) := dk_89 (dk_at dksX1_reset_2 22 rfl rfl)
theorem dX1_reset_69 : decode cX1_reset 69 = .ok (.aload_n 0, 1) := dk_42 (dk_at dksX1_reset_2 23 rfl rfl)
theorem dX1_reset_70 : decode cX1_reset 70 = .ok (.aload_n 0, 1) := dk_42 (dk_at dksX1_reset_3 0 rfl rfl)
theorem dX1_reset_71 : decode cX1_reset 71 = .ok (.getfield 37, 3) := dk_180 0 37 (dk_at dksX1_reset_3 1 rfl rfl)
theorem dX1_reset_74 : decode cX1_reset 74 = .ok (.iconst 0, 1) := dk_3 (dk_at dksX1_reset_3 4 rfl rfl)
theorem dX1_reset_75 : decode cX1_reset 75 = .ok (.invokevirtual 107, 3) := dk_182 0 107 (dk_at dksX1_reset_3 5 rfl rfl)
theorem dX1_reset_78 : decode cX1_reset 78 = .ok (.checkcast 201, 3) := dk_192 0 201 (dk_at dksX1_reset_3 8 rfl rfl)
theorem dX1_reset_81 : decode cX1_reset 81 = .ok (.invokespecial 208, 3) := dk_183 0 208 (dk_at dksX1_reset_3 11 rfl rfl)
theorem dX1_reset_84 : decode cX1_reset 84 = .ok (.putfield 211, 3) := dk_181 0 211 (dk_at dksX1_reset_3 14 rfl rfl)
theorem dX1_reset_87 : decode cX1_reset 87 = .ok (.iload_n 1, 1) := dk_27 (dk_at dksX1_reset_3 17 rfl rfl)
theorem dX1_reset_88 : decode cX1_reset 88 = .ok (.ireturn, 1) := dk_172 (dk_at dksX1_reset_3 18 rfl rfl)
abbrev cX1_target : ByteArray := prog_1_method_36_code
def yX1_target : MethodName := ⟨RX1, "target", "()I"⟩
def dkwX1_target_1 : List UInt8 := [172]
abbrev dktX1_target_1 : List UInt8 := dkwX1_target_1 ++ []
def dkwX1_target_0 : List UInt8 := [42, 182, 1, 65, 153, 0, 19, 42, 180, 0, 211, 180, 1, 68, 180, 1, 57, 180, 0, 215, 167, 0, 4, 2]
abbrev dktX1_target_0 : List UInt8 := dkwX1_target_0 ++ dktX1_target_1
theorem dksX1_target_0 : cX1_target.data.toList.drop 0 = dktX1_target_0 := by decide +kernel
theorem dksX1_target_1 : cX1_target.data.toList.drop 24 = dktX1_target_1 := dk_seg dksX1_target_0 24 rfl rfl
theorem dX1_target_0 : decode cX1_target 0 = .ok (.aload_n 0, 1) := dk_42 (dk_at dksX1_target_0 0 rfl rfl)
theorem dX1_target_1 : decode cX1_target 1 = .ok (.invokevirtual 321, 3) := dk_182 1 65 (dk_at dksX1_target_0 1 rfl rfl)
theorem dX1_target_4 : decode cX1_target 4 = .ok (.ifCond .eq 19, 3) := dk_153 0 19 (dk_at dksX1_target_0 4 rfl rfl)
theorem dX1_target_7 : decode cX1_target 7 = .ok (.aload_n 0, 1) := dk_42 (dk_at dksX1_target_0 7 rfl rfl)
theorem dX1_target_8 : decode cX1_target 8 = .ok (.getfield 211, 3) := dk_180 0 211 (dk_at dksX1_target_0 8 rfl rfl)
theorem dX1_target_11 : decode cX1_target 11 = .ok (.getfield 324, 3) := dk_180 1 68 (dk_at dksX1_target_0 11 rfl rfl)
theorem dX1_target_14 : decode cX1_target 14 = .ok (.getfield 313, 3) := dk_180 1 57 (dk_at dksX1_target_0 14 rfl rfl)
theorem dX1_target_17 : decode cX1_target 17 = .ok (.getfield 215, 3) := dk_180 0 215 (dk_at dksX1_target_0 17 rfl rfl)
theorem dX1_target_20 : decode cX1_target 20 = .ok (.goto 4, 3) := dk_167 0 4 (dk_at dksX1_target_0 20 rfl rfl)
theorem dX1_target_23 : decode cX1_target 23 = .ok (.iconst (-1), 1) := dk_2 (dk_at dksX1_target_0 23 rfl rfl)
theorem dX1_target_24 : decode cX1_target 24 = .ok (.ireturn, 1) := dk_172 (dk_at dksX1_target_1 0 rfl rfl)
abbrev cX1_isInTransition : ByteArray := prog_1_method_35_code
def yX1_isInTransition : MethodName := ⟨RX1, "isInTransition", "()Z"⟩
def dkwX1_isInTransition_0 : List UInt8 := [42, 180, 0, 211, 198, 0, 17, 42, 180, 0, 211, 182, 1, 62, 154, 0, 7, 4, 167, 0, 4, 3, 172]
abbrev dktX1_isInTransition_0 : List UInt8 := dkwX1_isInTransition_0 ++ []
theorem dksX1_isInTransition_0 : cX1_isInTransition.data.toList.drop 0 = dktX1_isInTransition_0 := by decide +kernel
theorem dX1_isInTransition_0 : decode cX1_isInTransition 0 = .ok (.aload_n 0, 1) := dk_42 (dk_at dksX1_isInTransition_0 0 rfl rfl)
theorem dX1_isInTransition_1 : decode cX1_isInTransition 1 = .ok (.getfield 211, 3) := dk_180 0 211 (dk_at dksX1_isInTransition_0 1 rfl rfl)
theorem dX1_isInTransition_4 : decode cX1_isInTransition 4 = .ok (.ifnull 17, 3) := dk_198 0 17 (dk_at dksX1_isInTransition_0 4 rfl rfl)
theorem dX1_isInTransition_7 : decode cX1_isInTransition 7 = .ok (.aload_n 0, 1) := dk_42 (dk_at dksX1_isInTransition_0 7 rfl rfl)
theorem dX1_isInTransition_8 : decode cX1_isInTransition 8 = .ok (.getfield 211, 3) := dk_180 0 211 (dk_at dksX1_isInTransition_0 8 rfl rfl)
theorem dX1_isInTransition_11 : decode cX1_isInTransition 11 = .ok (.invokevirtual 318, 3) := dk_182 1 62 (dk_at dksX1_isInTransition_0 11 rfl rfl)
theorem dX1_isInTransition_14 : decode cX1_isInTransition 14 = .ok (.ifCond .ne 7, 3) := dk_154 0 7 (dk_at dksX1_isInTransition_0 14 rfl rfl)
theorem dX1_isInTransition_17 : decode cX1_isInTransition 17 = .ok (.iconst 1, 1) := dk_4 (dk_at dksX1_isInTransition_0 17 rfl rfl)
theorem dX1_isInTransition_18 : decode cX1_isInTransition 18 = .ok (.goto 4, 3) := dk_167 0 4 (dk_at dksX1_isInTransition_0 18 rfl rfl)
theorem dX1_isInTransition_21 : decode cX1_isInTransition 21 = .ok (.iconst 0, 1) := dk_3 (dk_at dksX1_isInTransition_0 21 rfl rfl)
theorem dX1_isInTransition_22 : decode cX1_isInTransition 22 = .ok (.ireturn, 1) := dk_172 (dk_at dksX1_isInTransition_0 22 rfl rfl)
abbrev cX1_transition : ByteArray := prog_1_method_37_code
def yX1_transition : MethodName := ⟨RX1, "transition", "()I"⟩
def dkwX1_transition_0 : List UInt8 := [42, 182, 1, 65, 153, 0, 13, 42, 180, 0, 211, 180, 1, 71, 167, 0, 4, 2, 172]
abbrev dktX1_transition_0 : List UInt8 := dkwX1_transition_0 ++ []
theorem dksX1_transition_0 : cX1_transition.data.toList.drop 0 = dktX1_transition_0 := by decide +kernel
theorem dX1_transition_0 : decode cX1_transition 0 = .ok (.aload_n 0, 1) := dk_42 (dk_at dksX1_transition_0 0 rfl rfl)
theorem dX1_transition_1 : decode cX1_transition 1 = .ok (.invokevirtual 321, 3) := dk_182 1 65 (dk_at dksX1_transition_0 1 rfl rfl)
theorem dX1_transition_4 : decode cX1_transition 4 = .ok (.ifCond .eq 13, 3) := dk_153 0 13 (dk_at dksX1_transition_0 4 rfl rfl)
theorem dX1_transition_7 : decode cX1_transition 7 = .ok (.aload_n 0, 1) := dk_42 (dk_at dksX1_transition_0 7 rfl rfl)
theorem dX1_transition_8 : decode cX1_transition 8 = .ok (.getfield 211, 3) := dk_180 0 211 (dk_at dksX1_transition_0 8 rfl rfl)
theorem dX1_transition_11 : decode cX1_transition 11 = .ok (.getfield 327, 3) := dk_180 1 71 (dk_at dksX1_transition_0 11 rfl rfl)
theorem dX1_transition_14 : decode cX1_transition 14 = .ok (.goto 4, 3) := dk_167 0 4 (dk_at dksX1_transition_0 14 rfl rfl)
theorem dX1_transition_17 : decode cX1_transition 17 = .ok (.iconst (-1), 1) := dk_2 (dk_at dksX1_transition_0 17 rfl rfl)
theorem dX1_transition_18 : decode cX1_transition 18 = .ok (.ireturn, 1) := dk_172 (dk_at dksX1_transition_0 18 rfl rfl)
abbrev cX1_elapsed : ByteArray := prog_1_method_38_code
def yX1_elapsed : MethodName := ⟨RX1, "elapsed", "()I"⟩
def dkwX1_elapsed_0 : List UInt8 := [42, 182, 1, 65, 153, 0, 13, 42, 180, 0, 211, 180, 1, 74, 167, 0, 4, 2, 172]
abbrev dktX1_elapsed_0 : List UInt8 := dkwX1_elapsed_0 ++ []
theorem dksX1_elapsed_0 : cX1_elapsed.data.toList.drop 0 = dktX1_elapsed_0 := by decide +kernel
theorem dX1_elapsed_0 : decode cX1_elapsed 0 = .ok (.aload_n 0, 1) := dk_42 (dk_at dksX1_elapsed_0 0 rfl rfl)
theorem dX1_elapsed_1 : decode cX1_elapsed 1 = .ok (.invokevirtual 321, 3) := dk_182 1 65 (dk_at dksX1_elapsed_0 1 rfl rfl)
theorem dX1_elapsed_4 : decode cX1_elapsed 4 = .ok (.ifCond .eq 13, 3) := dk_153 0 13 (dk_at dksX1_elapsed_0 4 rfl rfl)
theorem dX1_elapsed_7 : decode cX1_elapsed 7 = .ok (.aload_n 0, 1) := dk_42 (dk_at dksX1_elapsed_0 7 rfl rfl)
theorem dX1_elapsed_8 : decode cX1_elapsed 8 = .ok (.getfield 211, 3) := dk_180 0 211 (dk_at dksX1_elapsed_0 8 rfl rfl)
theorem dX1_elapsed_11 : decode cX1_elapsed 11 = .ok (.getfield 330, 3) := dk_180 1 74 (dk_at dksX1_elapsed_0 11 rfl rfl)
theorem dX1_elapsed_14 : decode cX1_elapsed 14 = .ok (.goto 4, 3) := dk_167 0 4 (dk_at dksX1_elapsed_0 14 rfl rfl)
theorem dX1_elapsed_17 : decode cX1_elapsed 17 = .ok (.iconst (-1), 1) := dk_2 (dk_at dksX1_elapsed_0 17 rfl rfl)
theorem dX1_elapsed_18 : decode cX1_elapsed 18 = .ok (.ireturn, 1) := dk_172 (dk_at dksX1_elapsed_0 18 rfl rfl)
abbrev cX1_isFrozen : ByteArray := prog_1_method_39_code
def yX1_isFrozen : MethodName := ⟨RX1, "isFrozen", "()Z"⟩
def dkwX1_isFrozen_0 : List UInt8 := [42, 182, 1, 65, 153, 0, 17, 42, 180, 0, 211, 180, 1, 77, 153, 0, 7, 4, 167, 0, 4, 3, 172]
abbrev dktX1_isFrozen_0 : List UInt8 := dkwX1_isFrozen_0 ++ []
theorem dksX1_isFrozen_0 : cX1_isFrozen.data.toList.drop 0 = dktX1_isFrozen_0 := by decide +kernel
theorem dX1_isFrozen_0 : decode cX1_isFrozen 0 = .ok (.aload_n 0, 1) := dk_42 (dk_at dksX1_isFrozen_0 0 rfl rfl)
theorem dX1_isFrozen_1 : decode cX1_isFrozen 1 = .ok (.invokevirtual 321, 3) := dk_182 1 65 (dk_at dksX1_isFrozen_0 1 rfl rfl)
theorem dX1_isFrozen_4 : decode cX1_isFrozen 4 = .ok (.ifCond .eq 17, 3) := dk_153 0 17 (dk_at dksX1_isFrozen_0 4 rfl rfl)
theorem dX1_isFrozen_7 : decode cX1_isFrozen 7 = .ok (.aload_n 0, 1) := dk_42 (dk_at dksX1_isFrozen_0 7 rfl rfl)
theorem dX1_isFrozen_8 : decode cX1_isFrozen 8 = .ok (.getfield 211, 3) := dk_180 0 211 (dk_at dksX1_isFrozen_0 8 rfl rfl)
theorem dX1_isFrozen_11 : decode cX1_isFrozen 11 = .ok (.getfield 333, 3) := dk_180 1 77 (dk_at dksX1_isFrozen_0 11 rfl rfl)
theorem dX1_isFrozen_14 : decode cX1_isFrozen 14 = .ok (.ifCond .eq 7, 3) := dk_153 0 7 (dk_at dksX1_isFrozen_0 14 rfl rfl)
theorem dX1_isFrozen_17 : decode cX1_isFrozen 17 = .ok (.iconst 1, 1) := dk_4 (dk_at dksX1_isFrozen_0 17 rfl rfl)
theorem dX1_isFrozen_18 : decode cX1_isFrozen 18 = .ok (.goto 4, 3) := dk_167 0 4 (dk_at dksX1_isFrozen_0 18 rfl rfl)
theorem dX1_isFrozen_21 : decode cX1_isFrozen 21 = .ok (.iconst 0, 1) := dk_3 (dk_at dksX1_isFrozen_0 21 rfl rfl)
theorem dX1_isFrozen_22 : decode cX1_isFrozen 22 = .ok (.ireturn, 1) := dk_172 (dk_at dksX1_isFrozen_0 22 rfl rfl)
abbrev cX1_poseSize : ByteArray := prog_1_method_46_code
def yX1_poseSize : MethodName := ⟨RX1, "poseSize", "()I"⟩
def dkwX1_poseSize_0 : List UInt8 := [42, 182, 1, 99, 180, 1, 95, 172]
abbrev dktX1_poseSize_0 : List UInt8 := dkwX1_poseSize_0 ++ []
theorem dksX1_poseSize_0 : cX1_poseSize.data.toList.drop 0 = dktX1_poseSize_0 := by decide +kernel
theorem dX1_poseSize_0 : decode cX1_poseSize 0 = .ok (.aload_n 0, 1) := dk_42 (dk_at dksX1_poseSize_0 0 rfl rfl)
theorem dX1_poseSize_1 : decode cX1_poseSize 1 = .ok (.invokevirtual 355, 3) := dk_182 1 99 (dk_at dksX1_poseSize_0 1 rfl rfl)
theorem dX1_poseSize_4 : decode cX1_poseSize 4 = .ok (.getfield 351, 3) := dk_180 1 95 (dk_at dksX1_poseSize_0 4 rfl rfl)
theorem dX1_poseSize_7 : decode cX1_poseSize 7 = .ok (.ireturn, 1) := dk_172 (dk_at dksX1_poseSize_0 7 rfl rfl)
abbrev cX1_present : ByteArray := prog_1_method_44_code
def yX1_present : MethodName := ⟨RX1, "present", "()LAnimationController$Pose;"⟩
def dkwX1_present_1 : List UInt8 := [182, 1, 96, 42, 180, 0, 50, 176]
abbrev dktX1_present_1 : List UInt8 := dkwX1_present_1 ++ []
def dkwX1_present_0 : List UInt8 := [42, 180, 0, 211, 199, 0, 14, 42, 180, 0, 50, 3, 181, 1, 95, 167, 0, 10, 42, 180, 0, 211]
abbrev dktX1_present_0 : List UInt8 := dkwX1_present_0 ++ dktX1_present_1
theorem dksX1_present_0 : cX1_present.data.toList.drop 0 = dktX1_present_0 := by decide +kernel
theorem dksX1_present_1 : cX1_present.data.toList.drop 22 = dktX1_present_1 := dk_seg dksX1_present_0 22 rfl rfl
theorem dX1_present_0 : decode cX1_present 0 = .ok (.aload_n 0, 1) := dk_42 (dk_at dksX1_present_0 0 rfl rfl)
theorem dX1_present_1 : decode cX1_present 1 = .ok (.getfield 211, 3) := dk_180 0 211 (dk_at dksX1_present_0 1 rfl rfl)
theorem dX1_present_4 : decode cX1_present 4 = .ok (.ifnonnull 14, 3) := dk_199 0 14 (dk_at dksX1_present_0 4 rfl rfl)
theorem dX1_present_7 : decode cX1_present 7 = .ok (.aload_n 0, 1) := dk_42 (dk_at dksX1_present_0 7 rfl rfl)
theorem dX1_present_8 : decode cX1_present 8 = .ok (.getfield 50, 3) := dk_180 0 50 (dk_at dksX1_present_0 8 rfl rfl)
theorem dX1_present_11 : decode cX1_present 11 = .ok (.iconst 0, 1) := dk_3 (dk_at dksX1_present_0 11 rfl rfl)
theorem dX1_present_12 : decode cX1_present 12 = .ok (.putfield 351, 3) := dk_181 1 95 (dk_at dksX1_present_0 12 rfl rfl)
theorem dX1_present_15 : decode cX1_present 15 = .ok (.goto 10, 3) := dk_167 0 10 (dk_at dksX1_present_0 15 rfl rfl)
theorem dX1_present_18 : decode cX1_present 18 = .ok (.aload_n 0, 1) := dk_42 (dk_at dksX1_present_0 18 rfl rfl)
theorem dX1_present_19 : decode cX1_present 19 = .ok (.getfield 211, 3) := dk_180 0 211 (dk_at dksX1_present_0 19 rfl rfl)
theorem dX1_present_22 : decode cX1_present 22 = .ok (.invokevirtual 352, 3) := dk_182 1 96 (dk_at dksX1_present_1 0 rfl rfl)
theorem dX1_present_25 : decode cX1_present 25 = .ok (.aload_n 0, 1) := dk_42 (dk_at dksX1_present_1 3 rfl rfl)
theorem dX1_present_26 : decode cX1_present 26 = .ok (.getfield 50, 3) := dk_180 0 50 (dk_at dksX1_present_1 4 rfl rfl)
theorem dX1_present_29 : decode cX1_present 29 = .ok (.areturn, 1) := dk_176 (dk_at dksX1_present_1 7 rfl rfl)
abbrev cX1_share : ByteArray := prog_1_method_5_code
def yX1_share : MethodName := ⟨RX1, "share", "(JJJ)I"⟩
def dkwX1_share_0 : List UInt8 := [30, 32, 105, 22, 4, 109, 136, 172]
abbrev dktX1_share_0 : List UInt8 := dkwX1_share_0 ++ []
theorem dksX1_share_0 : cX1_share.data.toList.drop 0 = dktX1_share_0 := by decide +kernel
theorem dX1_share_0 : decode cX1_share 0 = .ok (.lload_n 0, 1) := dk_30 (dk_at dksX1_share_0 0 rfl rfl)
theorem dX1_share_1 : decode cX1_share 1 = .ok (.lload_n 2, 1) := dk_32 (dk_at dksX1_share_0 1 rfl rfl)
theorem dX1_share_2 : decode cX1_share 2 = .ok (.lmul, 1) := dk_105 (dk_at dksX1_share_0 2 rfl rfl)
theorem dX1_share_3 : decode cX1_share 3 = .ok (.lload 4, 2) := dk_22 4 (dk_at dksX1_share_0 3 rfl rfl)
theorem dX1_share_5 : decode cX1_share 5 = .ok (.ldiv, 1) := dk_109 (dk_at dksX1_share_0 5 rfl rfl)
theorem dX1_share_6 : decode cX1_share 6 = .ok (.l2i, 1) := dk_136 (dk_at dksX1_share_0 6 rfl rfl)
theorem dX1_share_7 : decode cX1_share 7 = .ok (.ireturn, 1) := dk_172 (dk_at dksX1_share_0 7 rfl rfl)
abbrev cX1_blend : ByteArray := prog_1_method_29_code
def yX1_blend : MethodName := ⟨RX1, "blend", "(LAnimationController$Blend;LAnimationController$Node;I)V"⟩
def dkwX1_blend_0 : List UInt8 := [43, 182, 1, 17, 44, 43, 29, 182, 1, 20, 177]
abbrev dktX1_blend_0 : List UInt8 := dkwX1_blend_0 ++ []
theorem dksX1_blend_0 : cX1_blend.data.toList.drop 0 = dktX1_blend_0 := by decide +kernel
theorem dX1_blend_0 : decode cX1_blend 0 = .ok (.aload_n 1, 1) := dk_43 (dk_at dksX1_blend_0 0 rfl rfl)
theorem dX1_blend_1 : decode cX1_blend 1 = .ok (.invokevirtual 273, 3) := dk_182 1 17 (dk_at dksX1_blend_0 1 rfl rfl)
theorem dX1_blend_4 : decode cX1_blend 4 = .ok (.aload_n 2, 1) := dk_44 (dk_at dksX1_blend_0 4 rfl rfl)
theorem dX1_blend_5 : decode cX1_blend 5 = .ok (.aload_n 1, 1) := dk_43 (dk_at dksX1_blend_0 5 rfl rfl)
theorem dX1_blend_6 : decode cX1_blend 6 = .ok (.iload_n 3, 1) := dk_29 (dk_at dksX1_blend_0 6 rfl rfl)
theorem dX1_blend_7 : decode cX1_blend 7 = .ok (.invokevirtual 276, 3) := dk_182 1 20 (dk_at dksX1_blend_0 7 rfl rfl)
theorem dX1_blend_10 : decode cX1_blend 10 = .ok (.return_, 1) := dk_177 (dk_at dksX1_blend_0 10 rfl rfl)
abbrev cX1_fired : ByteArray := prog_1_method_50_code
def yX1_fired : MethodName := ⟨RX1, "fired", "()I"⟩
def dkwX1_fired_0 : List UInt8 := [42, 180, 0, 211, 199, 0, 7, 3, 167, 0, 10, 42, 180, 0, 211, 180, 1, 113, 172]
abbrev dktX1_fired_0 : List UInt8 := dkwX1_fired_0 ++ []
theorem dksX1_fired_0 : cX1_fired.data.toList.drop 0 = dktX1_fired_0 := by decide +kernel
theorem dX1_fired_0 : decode cX1_fired 0 = .ok (.aload_n 0, 1) := dk_42 (dk_at dksX1_fired_0 0 rfl rfl)
theorem dX1_fired_1 : decode cX1_fired 1 = .ok (.getfield 211, 3) := dk_180 0 211 (dk_at dksX1_fired_0 1 rfl rfl)
theorem dX1_fired_4 : decode cX1_fired 4 = .ok (.ifnonnull 7, 3) := dk_199 0 7 (dk_at dksX1_fired_0 4 rfl rfl)
theorem dX1_fired_7 : decode cX1_fired 7 = .ok (.iconst 0, 1) := dk_3 (dk_at dksX1_fired_0 7 rfl rfl)
theorem dX1_fired_8 : decode cX1_fired 8 = .ok (.goto 10, 3) := dk_167 0 10 (dk_at dksX1_fired_0 8 rfl rfl)
theorem dX1_fired_11 : decode cX1_fired 11 = .ok (.aload_n 0, 1) := dk_42 (dk_at dksX1_fired_0 11 rfl rfl)
theorem dX1_fired_12 : decode cX1_fired 12 = .ok (.getfield 211, 3) := dk_180 0 211 (dk_at dksX1_fired_0 12 rfl rfl)
theorem dX1_fired_15 : decode cX1_fired 15 = .ok (.getfield 369, 3) := dk_180 1 113 (dk_at dksX1_fired_0 15 rfl rfl)
theorem dX1_fired_18 : decode cX1_fired 18 = .ok (.ireturn, 1) := dk_172 (dk_at dksX1_fired_0 18 rfl rfl)
abbrev cX1_clearText : ByteArray := prog_1_method_63_code
def yX1_clearText : MethodName := ⟨RX1, "clearText", "()I"⟩
def dkwX1_clearText_0 : List UInt8 := [42, 180, 0, 79, 182, 1, 193, 60, 42, 180, 0, 79, 3, 182, 1, 200, 27, 172]
abbrev dktX1_clearText_0 : List UInt8 := dkwX1_clearText_0 ++ []
theorem dksX1_clearText_0 : cX1_clearText.data.toList.drop 0 = dktX1_clearText_0 := by decide +kernel
theorem dX1_clearText_0 : decode cX1_clearText 0 = .ok (.aload_n 0, 1) := dk_42 (dk_at dksX1_clearText_0 0 rfl rfl)
theorem dX1_clearText_1 : decode cX1_clearText 1 = .ok (.getfield 79, 3) := dk_180 0 79 (dk_at dksX1_clearText_0 1 rfl rfl)
theorem dX1_clearText_4 : decode cX1_clearText 4 = .ok (.invokevirtual 449, 3) := dk_182 1 193 (dk_at dksX1_clearText_0 4 rfl rfl)
theorem dX1_clearText_7 : decode cX1_clearText 7 = .ok (.istore_n 1, 1) := dk_60 (dk_at dksX1_clearText_0 7 rfl rfl)
theorem dX1_clearText_8 : decode cX1_clearText 8 = .ok (.aload_n 0, 1) := dk_42 (dk_at dksX1_clearText_0 8 rfl rfl)
theorem dX1_clearText_9 : decode cX1_clearText 9 = .ok (.getfield 79, 3) := dk_180 0 79 (dk_at dksX1_clearText_0 9 rfl rfl)
theorem dX1_clearText_12 : decode cX1_clearText 12 = .ok (.iconst 0, 1) := dk_3 (dk_at dksX1_clearText_0 12 rfl rfl)
theorem dX1_clearText_13 : decode cX1_clearText 13 = .ok (.invokevirtual 456, 3) := dk_182 1 200 (dk_at dksX1_clearText_0 13 rfl rfl)
theorem dX1_clearText_16 : decode cX1_clearText 16 = .ok (.iload_n 1, 1) := dk_27 (dk_at dksX1_clearText_0 16 rfl rfl)
theorem dX1_clearText_17 : decode cX1_clearText 17 = .ok (.ireturn, 1) := dk_172 (dk_at dksX1_clearText_0 17 rfl rfl)
abbrev cX1_fault : ByteArray := prog_1_method_64_code
def yX1_fault : MethodName := ⟨RX1, "fault", "()I"⟩
def dkwX1_fault_1 : List UInt8 := [172]
abbrev dktX1_fault_1 : List UInt8 := dkwX1_fault_1 ++ []
def dkwX1_fault_0 : List UInt8 := [187, 1, 203, 89, 42, 183, 1, 205, 76, 43, 182, 1, 206, 153, 0, 7, 2, 167, 0, 7, 43, 180, 1, 209]
abbrev dktX1_fault_0 : List UInt8 := dkwX1_fault_0 ++ dktX1_fault_1
theorem dksX1_fault_0 : cX1_fault.data.toList.drop 0 = dktX1_fault_0 := by decide +kernel
theorem dksX1_fault_1 : cX1_fault.data.toList.drop 24 = dktX1_fault_1 := dk_seg dksX1_fault_0 24 rfl rfl
theorem dX1_fault_0 : decode cX1_fault 0 = .ok (.new 459, 3) := dk_187 1 203 (dk_at dksX1_fault_0 0 rfl rfl)
theorem dX1_fault_3 : decode cX1_fault 3 = .ok (.dup, 1) := dk_89 (dk_at dksX1_fault_0 3 rfl rfl)
theorem dX1_fault_4 : decode cX1_fault 4 = .ok (.aload_n 0, 1) := dk_42 (dk_at dksX1_fault_0 4 rfl rfl)
theorem dX1_fault_5 : decode cX1_fault 5 = .ok (.invokespecial 461, 3) := dk_183 1 205 (dk_at dksX1_fault_0 5 rfl rfl)
theorem dX1_fault_8 : decode cX1_fault 8 = .ok (.astore_n 1, 1) := dk_76 (dk_at dksX1_fault_0 8 rfl rfl)
theorem dX1_fault_9 : decode cX1_fault 9 = .ok (.aload_n 1, 1) := dk_43 (dk_at dksX1_fault_0 9 rfl rfl)
theorem dX1_fault_10 : decode cX1_fault 10 = .ok (.invokevirtual 462, 3) := dk_182 1 206 (dk_at dksX1_fault_0 10 rfl rfl)
theorem dX1_fault_13 : decode cX1_fault 13 = .ok (.ifCond .eq 7, 3) := dk_153 0 7 (dk_at dksX1_fault_0 13 rfl rfl)
theorem dX1_fault_16 : decode cX1_fault 16 = .ok (.iconst (-1), 1) := dk_2 (dk_at dksX1_fault_0 16 rfl rfl)
theorem dX1_fault_17 : decode cX1_fault 17 = .ok (.goto 7, 3) := dk_167 0 7 (dk_at dksX1_fault_0 17 rfl rfl)
theorem dX1_fault_20 : decode cX1_fault 20 = .ok (.aload_n 1, 1) := dk_43 (dk_at dksX1_fault_0 20 rfl rfl)
theorem dX1_fault_21 : decode cX1_fault 21 = .ok (.getfield 465, 3) := dk_180 1 209 (dk_at dksX1_fault_0 21 rfl rfl)
theorem dX1_fault_24 : decode cX1_fault 24 = .ok (.ireturn, 1) := dk_172 (dk_at dksX1_fault_1 0 rfl rfl)
abbrev cX1_in : ByteArray := prog_1_method_1_code
def yX1_in : MethodName := ⟨RX1, "in", "(JJJ)Z"⟩
def dkwX1_in_0 : List UInt8 := [30, 32, 148, 155, 0, 14, 30, 22, 4, 148, 157, 0, 7, 4, 167, 0, 4, 3, 172]
abbrev dktX1_in_0 : List UInt8 := dkwX1_in_0 ++ []
theorem dksX1_in_0 : cX1_in.data.toList.drop 0 = dktX1_in_0 := by decide +kernel
theorem dX1_in_0 : decode cX1_in 0 = .ok (.lload_n 0, 1) := dk_30 (dk_at dksX1_in_0 0 rfl rfl)
theorem dX1_in_1 : decode cX1_in 1 = .ok (.lload_n 2, 1) := dk_32 (dk_at dksX1_in_0 1 rfl rfl)
theorem dX1_in_2 : decode cX1_in 2 = .ok (.lcmp, 1) := dk_148 (dk_at dksX1_in_0 2 rfl rfl)
theorem dX1_in_3 : decode cX1_in 3 = .ok (.ifCond .lt 14, 3) := dk_155 0 14 (dk_at dksX1_in_0 3 rfl rfl)
theorem dX1_in_6 : decode cX1_in 6 = .ok (.lload_n 0, 1) := dk_30 (dk_at dksX1_in_0 6 rfl rfl)
theorem dX1_in_7 : decode cX1_in 7 = .ok (.lload 4, 2) := dk_22 4 (dk_at dksX1_in_0 7 rfl rfl)
theorem dX1_in_9 : decode cX1_in 9 = .ok (.lcmp, 1) := dk_148 (dk_at dksX1_in_0 9 rfl rfl)
theorem dX1_in_10 : decode cX1_in 10 = .ok (.ifCond .gt 7, 3) := dk_157 0 7 (dk_at dksX1_in_0 10 rfl rfl)
theorem dX1_in_13 : decode cX1_in 13 = .ok (.iconst 1, 1) := dk_4 (dk_at dksX1_in_0 13 rfl rfl)
theorem dX1_in_14 : decode cX1_in 14 = .ok (.goto 4, 3) := dk_167 0 4 (dk_at dksX1_in_0 14 rfl rfl)
theorem dX1_in_17 : decode cX1_in 17 = .ok (.iconst 0, 1) := dk_3 (dk_at dksX1_in_0 17 rfl rfl)
theorem dX1_in_18 : decode cX1_in 18 = .ok (.ireturn, 1) := dk_172 (dk_at dksX1_in_0 18 rfl rfl)
abbrev cX1_testFor : ByteArray := prog_1_method_19_code
def yX1_testFor : MethodName := ⟨RX1, "testFor", "(II)LAnimationController$Test;"⟩
def dkwX1_testFor_3 : List UInt8 := [186, 0, 196, 0, 0, 176]
abbrev dktX1_testFor_3 : List UInt8 := dkwX1_testFor_3 ++ []
def dkwX1_testFor_2 : List UInt8 := [27, 186, 0, 190, 0, 0, 176, 27, 186, 0, 194, 0, 0, 176, 27, 186, 0, 195, 0, 0, 176, 27]
abbrev dktX1_testFor_2 : List UInt8 := dkwX1_testFor_2 ++ dktX1_testFor_3
def dkwX1_testFor_1 : List UInt8 := [170, 0, 0, 0, 0, 0, 48, 0, 0, 0, 0, 0, 0, 0, 2, 0, 0, 0, 27, 0, 0, 0, 34, 0, 0, 0, 41]
abbrev dktX1_testFor_1 : List UInt8 := dkwX1_testFor_1 ++ dktX1_testFor_2
def dkwX1_testFor_0 : List UInt8 := [26]
abbrev dktX1_testFor_0 : List UInt8 := dkwX1_testFor_0 ++ dktX1_testFor_1
theorem dksX1_testFor_0 : cX1_testFor.data.toList.drop 0 = dktX1_testFor_0 := by decide +kernel
theorem dksX1_testFor_1 : cX1_testFor.data.toList.drop 1 = dktX1_testFor_1 := dk_seg dksX1_testFor_0 1 rfl rfl
theorem dksX1_testFor_2 : cX1_testFor.data.toList.drop 28 = dktX1_testFor_2 := dk_seg dksX1_testFor_1 27 rfl rfl
theorem dksX1_testFor_3 : cX1_testFor.data.toList.drop 50 = dktX1_testFor_3 := dk_seg dksX1_testFor_2 22 rfl rfl
theorem dX1_testFor_0 : decode cX1_testFor 0 = .ok (.iload_n 0, 1) := dk_26 (dk_at dksX1_testFor_0 0 rfl rfl)
theorem dX1_testFor_1 : decode cX1_testFor 1 = .ok (.tableswitch 48 0 2 #[27, 34, 41], 27) := by decide +kernel
theorem dX1_testFor_28 : decode cX1_testFor 28 = .ok (.iload_n 1, 1) := dk_27 (dk_at dksX1_testFor_2 0 rfl rfl)
theorem dX1_testFor_29 : decode cX1_testFor 29 = .ok (.invokedynamic 190, 5) := by decide +kernel
theorem dX1_testFor_34 : decode cX1_testFor 34 = .ok (.areturn, 1) := dk_176 (dk_at dksX1_testFor_2 6 rfl rfl)
theorem dX1_testFor_35 : decode cX1_testFor 35 = .ok (.iload_n 1, 1) := dk_27 (dk_at dksX1_testFor_2 7 rfl rfl)
theorem dX1_testFor_36 : decode cX1_testFor 36 = .ok (.invokedynamic 194, 5) := by decide +kernel
theorem dX1_testFor_41 : decode cX1_testFor 41 = .ok (.areturn, 1) := dk_176 (dk_at dksX1_testFor_2 13 rfl rfl)
theorem dX1_testFor_42 : decode cX1_testFor 42 = .ok (.iload_n 1, 1) := dk_27 (dk_at dksX1_testFor_2 14 rfl rfl)
theorem dX1_testFor_43 : decode cX1_testFor 43 = .ok (.invokedynamic 195, 5) := by decide +kernel
theorem dX1_testFor_48 : decode cX1_testFor 48 = .ok (.areturn, 1) := dk_176 (dk_at dksX1_testFor_2 20 rfl rfl)
theorem dX1_testFor_49 : decode cX1_testFor 49 = .ok (.iload_n 1, 1) := dk_27 (dk_at dksX1_testFor_2 21 rfl rfl)
theorem dX1_testFor_50 : decode cX1_testFor 50 = .ok (.invokedynamic 196, 5) := by decide +kernel
theorem dX1_testFor_55 : decode cX1_testFor 55 = .ok (.areturn, 1) := dk_176 (dk_at dksX1_testFor_3 5 rfl rfl)
abbrev cX1_lambda_testFor_0 : ByteArray := prog_1_method_69_code
def yX1_lambda_testFor_0 : MethodName := ⟨RX1, "lambda$testFor$0", "(II)Z"⟩
def dkwX1_lambda_testFor_0_0 : List UInt8 := [27, 26, 164, 0, 7, 4, 167, 0, 4, 3, 172]
abbrev dktX1_lambda_testFor_0_0 : List UInt8 := dkwX1_lambda_testFor_0_0 ++ []
theorem dksX1_lambda_testFor_0_0 : cX1_lambda_testFor_0.data.toList.drop 0 = dktX1_lambda_testFor_0_0 := by decide +kernel
theorem dX1_lambda_testFor_0_0 : decode cX1_lambda_testFor_0 0 = .ok (.iload_n 1, 1) := dk_27 (dk_at dksX1_lambda_testFor_0_0 0 rfl rfl)
theorem dX1_lambda_testFor_0_1 : decode cX1_lambda_testFor_0 1 = .ok (.iload_n 0, 1) := dk_26 (dk_at dksX1_lambda_testFor_0_0 1 rfl rfl)
theorem dX1_lambda_testFor_0_2 : decode cX1_lambda_testFor_0 2 = .ok (.if_icmp .le 7, 3) := dk_164 0 7 (dk_at dksX1_lambda_testFor_0_0 2 rfl rfl)
theorem dX1_lambda_testFor_0_5 : decode cX1_lambda_testFor_0 5 = .ok (.iconst 1, 1) := dk_4 (dk_at dksX1_lambda_testFor_0_0 5 rfl rfl)
theorem dX1_lambda_testFor_0_6 : decode cX1_lambda_testFor_0 6 = .ok (.goto 4, 3) := dk_167 0 4 (dk_at dksX1_lambda_testFor_0_0 6 rfl rfl)
theorem dX1_lambda_testFor_0_9 : decode cX1_lambda_testFor_0 9 = .ok (.iconst 0, 1) := dk_3 (dk_at dksX1_lambda_testFor_0_0 9 rfl rfl)
theorem dX1_lambda_testFor_0_10 : decode cX1_lambda_testFor_0 10 = .ok (.ireturn, 1) := dk_172 (dk_at dksX1_lambda_testFor_0_0 10 rfl rfl)
abbrev cX1_lambda_testFor_1 : ByteArray := prog_1_method_68_code
def yX1_lambda_testFor_1 : MethodName := ⟨RX1, "lambda$testFor$1", "(II)Z"⟩
def dkwX1_lambda_testFor_1_0 : List UInt8 := [27, 26, 162, 0, 7, 4, 167, 0, 4, 3, 172]
abbrev dktX1_lambda_testFor_1_0 : List UInt8 := dkwX1_lambda_testFor_1_0 ++ []
theorem dksX1_lambda_testFor_1_0 : cX1_lambda_testFor_1.data.toList.drop 0 = dktX1_lambda_testFor_1_0 := by decide +kernel
theorem dX1_lambda_testFor_1_0 : decode cX1_lambda_testFor_1 0 = .ok (.iload_n 1, 1) := dk_27 (dk_at dksX1_lambda_testFor_1_0 0 rfl rfl)
theorem dX1_lambda_testFor_1_1 : decode cX1_lambda_testFor_1 1 = .ok (.iload_n 0, 1) := dk_26 (dk_at dksX1_lambda_testFor_1_0 1 rfl rfl)
theorem dX1_lambda_testFor_1_2 : decode cX1_lambda_testFor_1 2 = .ok (.if_icmp .ge 7, 3) := dk_162 0 7 (dk_at dksX1_lambda_testFor_1_0 2 rfl rfl)
theorem dX1_lambda_testFor_1_5 : decode cX1_lambda_testFor_1 5 = .ok (.iconst 1, 1) := dk_4 (dk_at dksX1_lambda_testFor_1_0 5 rfl rfl)
theorem dX1_lambda_testFor_1_6 : decode cX1_lambda_testFor_1 6 = .ok (.goto 4, 3) := dk_167 0 4 (dk_at dksX1_lambda_testFor_1_0 6 rfl rfl)
theorem dX1_lambda_testFor_1_9 : decode cX1_lambda_testFor_1 9 = .ok (.iconst 0, 1) := dk_3 (dk_at dksX1_lambda_testFor_1_0 9 rfl rfl)
theorem dX1_lambda_testFor_1_10 : decode cX1_lambda_testFor_1 10 = .ok (.ireturn, 1) := dk_172 (dk_at dksX1_lambda_testFor_1_0 10 rfl rfl)
abbrev cX1_lambda_testFor_2 : ByteArray := prog_1_method_67_code
def yX1_lambda_testFor_2 : MethodName := ⟨RX1, "lambda$testFor$2", "(II)Z"⟩
def dkwX1_lambda_testFor_2_0 : List UInt8 := [27, 26, 160, 0, 7, 4, 167, 0, 4, 3, 172]
abbrev dktX1_lambda_testFor_2_0 : List UInt8 := dkwX1_lambda_testFor_2_0 ++ []
theorem dksX1_lambda_testFor_2_0 : cX1_lambda_testFor_2.data.toList.drop 0 = dktX1_lambda_testFor_2_0 := by decide +kernel
theorem dX1_lambda_testFor_2_0 : decode cX1_lambda_testFor_2 0 = .ok (.iload_n 1, 1) := dk_27 (dk_at dksX1_lambda_testFor_2_0 0 rfl rfl)
theorem dX1_lambda_testFor_2_1 : decode cX1_lambda_testFor_2 1 = .ok (.iload_n 0, 1) := dk_26 (dk_at dksX1_lambda_testFor_2_0 1 rfl rfl)
theorem dX1_lambda_testFor_2_2 : decode cX1_lambda_testFor_2 2 = .ok (.if_icmp .ne 7, 3) := dk_160 0 7 (dk_at dksX1_lambda_testFor_2_0 2 rfl rfl)
theorem dX1_lambda_testFor_2_5 : decode cX1_lambda_testFor_2 5 = .ok (.iconst 1, 1) := dk_4 (dk_at dksX1_lambda_testFor_2_0 5 rfl rfl)
theorem dX1_lambda_testFor_2_6 : decode cX1_lambda_testFor_2 6 = .ok (.goto 4, 3) := dk_167 0 4 (dk_at dksX1_lambda_testFor_2_0 6 rfl rfl)
theorem dX1_lambda_testFor_2_9 : decode cX1_lambda_testFor_2 9 = .ok (.iconst 0, 1) := dk_3 (dk_at dksX1_lambda_testFor_2_0 9 rfl rfl)
theorem dX1_lambda_testFor_2_10 : decode cX1_lambda_testFor_2 10 = .ok (.ireturn, 1) := dk_172 (dk_at dksX1_lambda_testFor_2_0 10 rfl rfl)
abbrev cX1_lambda_testFor_3 : ByteArray := prog_1_method_66_code
def yX1_lambda_testFor_3 : MethodName := ⟨RX1, "lambda$testFor$3", "(II)Z"⟩
def dkwX1_lambda_testFor_3_0 : List UInt8 := [27, 26, 159, 0, 7, 4, 167, 0, 4, 3, 172]
abbrev dktX1_lambda_testFor_3_0 : List UInt8 := dkwX1_lambda_testFor_3_0 ++ []
theorem dksX1_lambda_testFor_3_0 : cX1_lambda_testFor_3.data.toList.drop 0 = dktX1_lambda_testFor_3_0 := by decide +kernel
theorem dX1_lambda_testFor_3_0 : decode cX1_lambda_testFor_3 0 = .ok (.iload_n 1, 1) := dk_27 (dk_at dksX1_lambda_testFor_3_0 0 rfl rfl)
theorem dX1_lambda_testFor_3_1 : decode cX1_lambda_testFor_3 1 = .ok (.iload_n 0, 1) := dk_26 (dk_at dksX1_lambda_testFor_3_0 1 rfl rfl)
theorem dX1_lambda_testFor_3_2 : decode cX1_lambda_testFor_3 2 = .ok (.if_icmp .eq 7, 3) := dk_159 0 7 (dk_at dksX1_lambda_testFor_3_0 2 rfl rfl)
theorem dX1_lambda_testFor_3_5 : decode cX1_lambda_testFor_3 5 = .ok (.iconst 1, 1) := dk_4 (dk_at dksX1_lambda_testFor_3_0 5 rfl rfl)
theorem dX1_lambda_testFor_3_6 : decode cX1_lambda_testFor_3 6 = .ok (.goto 4, 3) := dk_167 0 4 (dk_at dksX1_lambda_testFor_3_0 6 rfl rfl)
theorem dX1_lambda_testFor_3_9 : decode cX1_lambda_testFor_3 9 = .ok (.iconst 0, 1) := dk_3 (dk_at dksX1_lambda_testFor_3_0 9 rfl rfl)
theorem dX1_lambda_testFor_3_10 : decode cX1_lambda_testFor_3 10 = .ok (.ireturn, 1) := dk_172 (dk_at dksX1_lambda_testFor_3_0 10 rfl rfl)
abbrev cX1_addParameter : ByteArray := prog_1_method_7_code
def yX1_addParameter : MethodName := ⟨RX1, "addParameter", "(I)I"⟩
def dkwX1_addParameter_2 : List UInt8 := [42, 180, 0, 27, 182, 0, 89, 4, 100, 172]
abbrev dktX1_addParameter_2 : List UInt8 := dkwX1_addParameter_2 ++ []
def dkwX1_addParameter_1 : List UInt8 := [4, 167, 0, 4, 3, 184, 0, 93, 42, 180, 0, 27, 187, 0, 96, 89, 27, 183, 0, 98, 182, 0, 99, 87]
abbrev dktX1_addParameter_1 : List UInt8 := dkwX1_addParameter_1 ++ dktX1_addParameter_2
def dkwX1_addParameter_0 : List UInt8 := [27, 133, 9, 20, 0, 83, 184, 0, 12, 184, 0, 85, 42, 180, 0, 27, 182, 0, 89, 16, 8, 162, 0, 7]
abbrev dktX1_addParameter_0 : List UInt8 := dkwX1_addParameter_0 ++ dktX1_addParameter_1
theorem dksX1_addParameter_0 : cX1_addParameter.data.toList.drop 0 = dktX1_addParameter_0 := by decide +kernel
theorem dksX1_addParameter_1 : cX1_addParameter.data.toList.drop 24 = dktX1_addParameter_1 := dk_seg dksX1_addParameter_0 24 rfl rfl
theorem dksX1_addParameter_2 : cX1_addParameter.data.toList.drop 48 = dktX1_addParameter_2 := dk_seg dksX1_addParameter_1 24 rfl rfl
theorem dX1_addParameter_0 : decode cX1_addParameter 0 = .ok (.iload_n 1, 1) := dk_27 (dk_at dksX1_addParameter_0 0 rfl rfl)
theorem dX1_addParameter_1 : decode cX1_addParameter 1 = .ok (.i2l, 1) := dk_133 (dk_at dksX1_addParameter_0 1 rfl rfl)
theorem dX1_addParameter_2 : decode cX1_addParameter 2 = .ok (.lconst 0, 1) := dk_9 (dk_at dksX1_addParameter_0 2 rfl rfl)
theorem dX1_addParameter_3 : decode cX1_addParameter 3 = .ok (.ldc2_w 83, 3) := dk_20 0 83 (dk_at dksX1_addParameter_0 3 rfl rfl)
theorem dX1_addParameter_6 : decode cX1_addParameter 6 = .ok (.invokestatic 12, 3) := dk_184 0 12 (dk_at dksX1_addParameter_0 6 rfl rfl)
theorem dX1_addParameter_9 : decode cX1_addParameter 9 = .ok (.invokestatic 85, 3) := dk_184 0 85 (dk_at dksX1_addParameter_0 9 rfl rfl)
theorem dX1_addParameter_12 : decode cX1_addParameter 12 = .ok (.aload_n 0, 1) := dk_42 (dk_at dksX1_addParameter_0 12 rfl rfl)
theorem dX1_addParameter_13 : decode cX1_addParameter 13 = .ok (.getfield 27, 3) := dk_180 0 27 (dk_at dksX1_addParameter_0 13 rfl rfl)
theorem dX1_addParameter_16 : decode cX1_addParameter 16 = .ok (.invokevirtual 89, 3) := dk_182 0 89 (dk_at dksX1_addParameter_0 16 rfl rfl)
theorem dX1_addParameter_19 : decode cX1_addParameter 19 = .ok (.bipush 8, 2) := dk_16 8 (dk_at dksX1_addParameter_0 19 rfl rfl)
theorem dX1_addParameter_21 : decode cX1_addParameter 21 = .ok (.if_icmp .ge 7, 3) := dk_162 0 7 (dk_at dksX1_addParameter_0 21 rfl rfl)
theorem dX1_addParameter_24 : decode cX1_addParameter 24 = .ok (.iconst 1, 1) := dk_4 (dk_at dksX1_addParameter_1 0 rfl rfl)
theorem dX1_addParameter_25 : decode cX1_addParameter 25 = .ok (.goto 4, 3) := dk_167 0 4 (dk_at dksX1_addParameter_1 1 rfl rfl)
theorem dX1_addParameter_28 : decode cX1_addParameter 28 = .ok (.iconst 0, 1) := dk_3 (dk_at dksX1_addParameter_1 4 rfl rfl)
theorem dX1_addParameter_29 : decode cX1_addParameter 29 = .ok (.invokestatic 93, 3) := dk_184 0 93 (dk_at dksX1_addParameter_1 5 rfl rfl)
theorem dX1_addParameter_32 : decode cX1_addParameter 32 = .ok (.aload_n 0, 1) := dk_42 (dk_at dksX1_addParameter_1 8 rfl rfl)
theorem dX1_addParameter_33 : decode cX1_addParameter 33 = .ok (.getfield 27, 3) := dk_180 0 27 (dk_at dksX1_addParameter_1 9 rfl rfl)
theorem dX1_addParameter_36 : decode cX1_addParameter 36 = .ok (.new 96, 3) := dk_187 0 96 (dk_at dksX1_addParameter_1 12 rfl rfl)
theorem dX1_addParameter_39 : decode cX1_addParameter 39 = .ok (.dup, 1) := dk_89 (dk_at dksX1_addParameter_1 15 rfl rfl)
theorem dX1_addParameter_40 : decode cX1_addParameter 40 = .ok (.iload_n 1, 1) := dk_27 (dk_at dksX1_addParameter_1 16 rfl rfl)
theorem dX1_addParameter_41 : decode cX1_addParameter 41 = .ok (.invokespecial 98, 3) := dk_183 0 98 (dk_at dksX1_addParameter_1 17 rfl rfl)
theorem dX1_addParameter_44 : decode cX1_addParameter 44 = .ok (.invokevirtual 99, 3) := dk_182 0 99 (dk_at dksX1_addParameter_1 20 rfl rfl)
theorem dX1_addParameter_47 : decode cX1_addParameter 47 = .ok (.pop, 1) := dk_87 (dk_at dksX1_addParameter_1 23 rfl rfl)
theorem dX1_addParameter_48 : decode cX1_addParameter 48 = .ok (.aload_n 0, 1) := dk_42 (dk_at dksX1_addParameter_2 0 rfl rfl)
theorem dX1_addParameter_49 : decode cX1_addParameter 49 = .ok (.getfield 27, 3) := dk_180 0 27 (dk_at dksX1_addParameter_2 1 rfl rfl)
theorem dX1_addParameter_52 : decode cX1_addParameter 52 = .ok (.invokevirtual 89, 3) := dk_182 0 89 (dk_at dksX1_addParameter_2 4 rfl rfl)
theorem dX1_addParameter_55 : decode cX1_addParameter 55 = .ok (.iconst 1, 1) := dk_4 (dk_at dksX1_addParameter_2 7 rfl rfl)
theorem dX1_addParameter_56 : decode cX1_addParameter 56 = .ok (.isub, 1) := dk_100 (dk_at dksX1_addParameter_2 8 rfl rfl)
theorem dX1_addParameter_57 : decode cX1_addParameter 57 = .ok (.ireturn, 1) := dk_172 (dk_at dksX1_addParameter_2 9 rfl rfl)
abbrev cX1_require : ByteArray := prog_1_method_2_code
def yX1_require : MethodName := ⟨RX1, "require", "(Z)V"⟩
def dkwX1_require_0 : List UInt8 := [26, 154, 0, 11, 187, 0, 3, 89, 183, 0, 5, 191, 177]
abbrev dktX1_require_0 : List UInt8 := dkwX1_require_0 ++ []
theorem dksX1_require_0 : cX1_require.data.toList.drop 0 = dktX1_require_0 := by decide +kernel
theorem dX1_require_0 : decode cX1_require 0 = .ok (.iload_n 0, 1) := dk_26 (dk_at dksX1_require_0 0 rfl rfl)
theorem dX1_require_1 : decode cX1_require 1 = .ok (.ifCond .ne 11, 3) := dk_154 0 11 (dk_at dksX1_require_0 1 rfl rfl)
theorem dX1_require_4 : decode cX1_require 4 = .ok (.new 3, 3) := dk_187 0 3 (dk_at dksX1_require_0 4 rfl rfl)
theorem dX1_require_7 : decode cX1_require 7 = .ok (.dup, 1) := dk_89 (dk_at dksX1_require_0 7 rfl rfl)
theorem dX1_require_8 : decode cX1_require 8 = .ok (.invokespecial 5, 3) := dk_183 0 5 (dk_at dksX1_require_0 8 rfl rfl)
theorem dX1_require_11 : decode cX1_require 11 = .ok (.athrow, 1) := dk_191 (dk_at dksX1_require_0 11 rfl rfl)
theorem dX1_require_12 : decode cX1_require 12 = .ok (.return_, 1) := dk_177 (dk_at dksX1_require_0 12 rfl rfl)
abbrev cX1_demand : ByteArray := prog_1_method_3_code
def yX1_demand : MethodName := ⟨RX1, "demand", "(Z)V"⟩
def dkwX1_demand_0 : List UInt8 := [26, 154, 0, 11, 187, 0, 9, 89, 183, 0, 11, 191, 177]
abbrev dktX1_demand_0 : List UInt8 := dkwX1_demand_0 ++ []
theorem dksX1_demand_0 : cX1_demand.data.toList.drop 0 = dktX1_demand_0 := by decide +kernel
theorem dX1_demand_0 : decode cX1_demand 0 = .ok (.iload_n 0, 1) := dk_26 (dk_at dksX1_demand_0 0 rfl rfl)
theorem dX1_demand_1 : decode cX1_demand 1 = .ok (.ifCond .ne 11, 3) := dk_154 0 11 (dk_at dksX1_demand_0 1 rfl rfl)
theorem dX1_demand_4 : decode cX1_demand 4 = .ok (.new 9, 3) := dk_187 0 9 (dk_at dksX1_demand_0 4 rfl rfl)
theorem dX1_demand_7 : decode cX1_demand 7 = .ok (.dup, 1) := dk_89 (dk_at dksX1_demand_0 7 rfl rfl)
theorem dX1_demand_8 : decode cX1_demand 8 = .ok (.invokespecial 11, 3) := dk_183 0 11 (dk_at dksX1_demand_0 8 rfl rfl)
theorem dX1_demand_11 : decode cX1_demand 11 = .ok (.athrow, 1) := dk_191 (dk_at dksX1_demand_0 11 rfl rfl)
theorem dX1_demand_12 : decode cX1_demand 12 = .ok (.return_, 1) := dk_177 (dk_at dksX1_demand_0 12 rfl rfl)
abbrev cX1_set : ByteArray := prog_1_method_9_code
def yX1_set : MethodName := ⟨RX1, "set", "(II)I"⟩
def dkwX1_set_1 : List UInt8 := [181, 0, 119, 21, 4, 172]
abbrev dktX1_set_1 : List UInt8 := dkwX1_set_1 ++ []
def dkwX1_set_0 : List UInt8 := [42, 27, 182, 0, 111, 78, 45, 28, 182, 0, 115, 184, 0, 85, 45, 180, 0, 119, 54, 4, 45, 28]
abbrev dktX1_set_0 : List UInt8 := dkwX1_set_0 ++ dktX1_set_1
theorem dksX1_set_0 : cX1_set.data.toList.drop 0 = dktX1_set_0 := by decide +kernel
theorem dksX1_set_1 : cX1_set.data.toList.drop 22 = dktX1_set_1 := dk_seg dksX1_set_0 22 rfl rfl
theorem dX1_set_0 : decode cX1_set 0 = .ok (.aload_n 0, 1) := dk_42 (dk_at dksX1_set_0 0 rfl rfl)
theorem dX1_set_1 : decode cX1_set 1 = .ok (.iload_n 1, 1) := dk_27 (dk_at dksX1_set_0 1 rfl rfl)
theorem dX1_set_2 : decode cX1_set 2 = .ok (.invokevirtual 111, 3) := dk_182 0 111 (dk_at dksX1_set_0 2 rfl rfl)
theorem dX1_set_5 : decode cX1_set 5 = .ok (.astore_n 3, 1) := dk_78 (dk_at dksX1_set_0 5 rfl rfl)
theorem dX1_set_6 : decode cX1_set 6 = .ok (.aload_n 3, 1) := dk_45 (dk_at dksX1_set_0 6 rfl rfl)
theorem dX1_set_7 : decode cX1_set 7 = .ok (.iload_n 2, 1) := dk_28 (dk_at dksX1_set_0 7 rfl rfl)
theorem dX1_set_8 : decode cX1_set 8 = .ok (.invokevirtual 115, 3) := dk_182 0 115 (dk_at dksX1_set_0 8 rfl rfl)
theorem dX1_set_11 : decode cX1_set 11 = .ok (.invokestatic 85, 3) := dk_184 0 85 (dk_at dksX1_set_0 11 rfl rfl)
theorem dX1_set_14 : decode cX1_set 14 = .ok (.aload_n 3, 1) := dk_45 (dk_at dksX1_set_0 14 rfl rfl)
theorem dX1_set_15 : decode cX1_set 15 = .ok (.getfield 119, 3) := dk_180 0 119 (dk_at dksX1_set_0 15 rfl rfl)
theorem dX1_set_18 : decode cX1_set 18 = .ok (.istore 4, 2) := dk_54 4 (dk_at dksX1_set_0 18 rfl rfl)
theorem dX1_set_20 : decode cX1_set 20 = .ok (.aload_n 3, 1) := dk_45 (dk_at dksX1_set_0 20 rfl rfl)
theorem dX1_set_21 : decode cX1_set 21 = .ok (.iload_n 2, 1) := dk_28 (dk_at dksX1_set_0 21 rfl rfl)
theorem dX1_set_22 : decode cX1_set 22 = .ok (.putfield 119, 3) := dk_181 0 119 (dk_at dksX1_set_1 0 rfl rfl)
theorem dX1_set_25 : decode cX1_set 25 = .ok (.iload 4, 2) := dk_21 4 (dk_at dksX1_set_1 3 rfl rfl)
theorem dX1_set_27 : decode cX1_set 27 = .ok (.ireturn, 1) := dk_172 (dk_at dksX1_set_1 5 rfl rfl)
abbrev cX1_parameter : ByteArray := prog_1_method_8_code
def yX1_parameter : MethodName := ⟨RX1, "parameter", "(I)LAnimationController$Parameter;"⟩
def dkwX1_parameter_0 : List UInt8 := [27, 42, 180, 0, 27, 182, 0, 89, 184, 0, 103, 42, 180, 0, 27, 27, 182, 0, 107, 192, 0, 96, 176]
abbrev dktX1_parameter_0 : List UInt8 := dkwX1_parameter_0 ++ []
theorem dksX1_parameter_0 : cX1_parameter.data.toList.drop 0 = dktX1_parameter_0 := by decide +kernel
theorem dX1_parameter_0 : decode cX1_parameter 0 = .ok (.iload_n 1, 1) := dk_27 (dk_at dksX1_parameter_0 0 rfl rfl)
theorem dX1_parameter_1 : decode cX1_parameter 1 = .ok (.aload_n 0, 1) := dk_42 (dk_at dksX1_parameter_0 1 rfl rfl)
theorem dX1_parameter_2 : decode cX1_parameter 2 = .ok (.getfield 27, 3) := dk_180 0 27 (dk_at dksX1_parameter_0 2 rfl rfl)
theorem dX1_parameter_5 : decode cX1_parameter 5 = .ok (.invokevirtual 89, 3) := dk_182 0 89 (dk_at dksX1_parameter_0 5 rfl rfl)
theorem dX1_parameter_8 : decode cX1_parameter 8 = .ok (.invokestatic 103, 3) := dk_184 0 103 (dk_at dksX1_parameter_0 8 rfl rfl)
theorem dX1_parameter_11 : decode cX1_parameter 11 = .ok (.aload_n 0, 1) := dk_42 (dk_at dksX1_parameter_0 11 rfl rfl)
theorem dX1_parameter_12 : decode cX1_parameter 12 = .ok (.getfield 27, 3) := dk_180 0 27 (dk_at dksX1_parameter_0 12 rfl rfl)
theorem dX1_parameter_15 : decode cX1_parameter 15 = .ok (.iload_n 1, 1) := dk_27 (dk_at dksX1_parameter_0 15 rfl rfl)
theorem dX1_parameter_16 : decode cX1_parameter 16 = .ok (.invokevirtual 107, 3) := dk_182 0 107 (dk_at dksX1_parameter_0 16 rfl rfl)
theorem dX1_parameter_19 : decode cX1_parameter 19 = .ok (.checkcast 96, 3) := dk_192 0 96 (dk_at dksX1_parameter_0 19 rfl rfl)
theorem dX1_parameter_22 : decode cX1_parameter 22 = .ok (.areturn, 1) := dk_176 (dk_at dksX1_parameter_0 22 rfl rfl)
abbrev cX1_checkIndex : ByteArray := prog_1_method_4_code
def yX1_checkIndex : MethodName := ⟨RX1, "checkIndex", "(II)V"⟩
def dkwX1_checkIndex_0 : List UInt8 := [26, 133, 9, 27, 4, 100, 133, 184, 0, 12, 154, 0, 11, 187, 0, 16, 89, 183, 0, 18, 191, 177]
abbrev dktX1_checkIndex_0 : List UInt8 := dkwX1_checkIndex_0 ++ []
theorem dksX1_checkIndex_0 : cX1_checkIndex.data.toList.drop 0 = dktX1_checkIndex_0 := by decide +kernel
theorem dX1_checkIndex_0 : decode cX1_checkIndex 0 = .ok (.iload_n 0, 1) := dk_26 (dk_at dksX1_checkIndex_0 0 rfl rfl)
theorem dX1_checkIndex_1 : decode cX1_checkIndex 1 = .ok (.i2l, 1) := dk_133 (dk_at dksX1_checkIndex_0 1 rfl rfl)
theorem dX1_checkIndex_2 : decode cX1_checkIndex 2 = .ok (.lconst 0, 1) := dk_9 (dk_at dksX1_checkIndex_0 2 rfl rfl)
theorem dX1_checkIndex_3 : decode cX1_checkIndex 3 = .ok (.iload_n 1, 1) := dk_27 (dk_at dksX1_checkIndex_0 3 rfl rfl)
theorem dX1_checkIndex_4 : decode cX1_checkIndex 4 = .ok (.iconst 1, 1) := dk_4 (dk_at dksX1_checkIndex_0 4 rfl rfl)
theorem dX1_checkIndex_5 : decode cX1_checkIndex 5 = .ok (.isub, 1) := dk_100 (dk_at dksX1_checkIndex_0 5 rfl rfl)
theorem dX1_checkIndex_6 : decode cX1_checkIndex 6 = .ok (.i2l, 1) := dk_133 (dk_at dksX1_checkIndex_0 6 rfl rfl)
theorem dX1_checkIndex_7 : decode cX1_checkIndex 7 = .ok (.invokestatic 12, 3) := dk_184 0 12 (dk_at dksX1_checkIndex_0 7 rfl rfl)
theorem dX1_checkIndex_10 : decode cX1_checkIndex 10 = .ok (.ifCond .ne 11, 3) := dk_154 0 11 (dk_at dksX1_checkIndex_0 10 rfl rfl)
theorem dX1_checkIndex_13 : decode cX1_checkIndex 13 = .ok (.new 16, 3) := dk_187 0 16 (dk_at dksX1_checkIndex_0 13 rfl rfl)
theorem dX1_checkIndex_16 : decode cX1_checkIndex 16 = .ok (.dup, 1) := dk_89 (dk_at dksX1_checkIndex_0 16 rfl rfl)
theorem dX1_checkIndex_17 : decode cX1_checkIndex 17 = .ok (.invokespecial 18, 3) := dk_183 0 18 (dk_at dksX1_checkIndex_0 17 rfl rfl)
theorem dX1_checkIndex_20 : decode cX1_checkIndex 20 = .ok (.athrow, 1) := dk_191 (dk_at dksX1_checkIndex_0 20 rfl rfl)
theorem dX1_checkIndex_21 : decode cX1_checkIndex 21 = .ok (.return_, 1) := dk_177 (dk_at dksX1_checkIndex_0 21 rfl rfl)
abbrev cX1_value : ByteArray := prog_1_method_10_code
def yX1_value : MethodName := ⟨RX1, "value", "(I)I"⟩
def dkwX1_value_0 : List UInt8 := [42, 27, 182, 0, 111, 180, 0, 119, 172]
abbrev dktX1_value_0 : List UInt8 := dkwX1_value_0 ++ []
theorem dksX1_value_0 : cX1_value.data.toList.drop 0 = dktX1_value_0 := by decide +kernel
theorem dX1_value_0 : decode cX1_value 0 = .ok (.aload_n 0, 1) := dk_42 (dk_at dksX1_value_0 0 rfl rfl)
theorem dX1_value_1 : decode cX1_value 1 = .ok (.iload_n 1, 1) := dk_27 (dk_at dksX1_value_0 1 rfl rfl)
theorem dX1_value_2 : decode cX1_value 2 = .ok (.invokevirtual 111, 3) := dk_182 0 111 (dk_at dksX1_value_0 2 rfl rfl)
theorem dX1_value_5 : decode cX1_value 5 = .ok (.getfield 119, 3) := dk_180 0 119 (dk_at dksX1_value_0 5 rfl rfl)
theorem dX1_value_8 : decode cX1_value 8 = .ok (.ireturn, 1) := dk_172 (dk_at dksX1_value_0 8 rfl rfl)
abbrev cX1_addClip : ByteArray := prog_1_method_11_code
def yX1_addClip : MethodName := ⟨RX1, "addClip", "(I)I"⟩
def dkwX1_addClip_2 : List UInt8 := [183, 0, 126, 182, 0, 99, 87, 42, 180, 0, 31, 182, 0, 89, 4, 100, 172]
abbrev dktX1_addClip_2 : List UInt8 := dkwX1_addClip_2 ++ []
def dkwX1_addClip_1 : List UInt8 := [4, 167, 0, 4, 3, 184, 0, 93, 42, 180, 0, 31, 187, 0, 124, 89, 42, 180, 0, 31, 182, 0, 89, 27]
abbrev dktX1_addClip_1 : List UInt8 := dkwX1_addClip_1 ++ dktX1_addClip_2
def dkwX1_addClip_0 : List UInt8 := [27, 133, 10, 20, 0, 122, 184, 0, 12, 184, 0, 85, 42, 180, 0, 31, 182, 0, 89, 16, 12, 162, 0, 7]
abbrev dktX1_addClip_0 : List UInt8 := dkwX1_addClip_0 ++ dktX1_addClip_1
theorem dksX1_addClip_0 : cX1_addClip.data.toList.drop 0 = dktX1_addClip_0 := by decide +kernel
theorem dksX1_addClip_1 : cX1_addClip.data.toList.drop 24 = dktX1_addClip_1 := dk_seg dksX1_addClip_0 24 rfl rfl
theorem dksX1_addClip_2 : cX1_addClip.data.toList.drop 48 = dktX1_addClip_2 := dk_seg dksX1_addClip_1 24 rfl rfl
theorem dX1_addClip_0 : decode cX1_addClip 0 = .ok (.iload_n 1, 1) := dk_27 (dk_at dksX1_addClip_0 0 rfl rfl)
theorem dX1_addClip_1 : decode cX1_addClip 1 = .ok (.i2l, 1) := dk_133 (dk_at dksX1_addClip_0 1 rfl rfl)
theorem dX1_addClip_2 : decode cX1_addClip 2 = .ok (.lconst 1, 1) := dk_10 (dk_at dksX1_addClip_0 2 rfl rfl)
theorem dX1_addClip_3 : decode cX1_addClip 3 = .ok (.ldc2_w 122, 3) := dk_20 0 122 (dk_at dksX1_addClip_0 3 rfl rfl)
theorem dX1_addClip_6 : decode cX1_addClip 6 = .ok (.invokestatic 12, 3) := dk_184 0 12 (dk_at dksX1_addClip_0 6 rfl rfl)
theorem dX1_addClip_9 : decode cX1_addClip 9 = .ok (.invokestatic 85, 3) := dk_184 0 85 (dk_at dksX1_addClip_0 9 rfl rfl)
theorem dX1_addClip_12 : decode cX1_addClip 12 = .ok (.aload_n 0, 1) := dk_42 (dk_at dksX1_addClip_0 12 rfl rfl)
theorem dX1_addClip_13 : decode cX1_addClip 13 = .ok (.getfield 31, 3) := dk_180 0 31 (dk_at dksX1_addClip_0 13 rfl rfl)
theorem dX1_addClip_16 : decode cX1_addClip 16 = .ok (.invokevirtual 89, 3) := dk_182 0 89 (dk_at dksX1_addClip_0 16 rfl rfl)
theorem dX1_addClip_19 : decode cX1_addClip 19 = .ok (.bipush 12, 2) := dk_16 12 (dk_at dksX1_addClip_0 19 rfl rfl)
theorem dX1_addClip_21 : decode cX1_addClip 21 = .ok (.if_icmp .ge 7, 3) := dk_162 0 7 (dk_at dksX1_addClip_0 21 rfl rfl)
theorem dX1_addClip_24 : decode cX1_addClip 24 = .ok (.iconst 1, 1) := dk_4 (dk_at dksX1_addClip_1 0 rfl rfl)
theorem dX1_addClip_25 : decode cX1_addClip 25 = .ok (.goto 4, 3) := dk_167 0 4 (dk_at dksX1_addClip_1 1 rfl rfl)
theorem dX1_addClip_28 : decode cX1_addClip 28 = .ok (.iconst 0, 1) := dk_3 (dk_at dksX1_addClip_1 4 rfl rfl)
theorem dX1_addClip_29 : decode cX1_addClip 29 = .ok (.invokestatic 93, 3) := dk_184 0 93 (dk_at dksX1_addClip_1 5 rfl rfl)
theorem dX1_addClip_32 : decode cX1_addClip 32 = .ok (.aload_n 0, 1) := dk_42 (dk_at dksX1_addClip_1 8 rfl rfl)
theorem dX1_addClip_33 : decode cX1_addClip 33 = .ok (.getfield 31, 3) := dk_180 0 31 (dk_at dksX1_addClip_1 9 rfl rfl)
theorem dX1_addClip_36 : decode cX1_addClip 36 = .ok (.new 124, 3) := dk_187 0 124 (dk_at dksX1_addClip_1 12 rfl rfl)
theorem dX1_addClip_39 : decode cX1_addClip 39 = .ok (.dup, 1) := dk_89 (dk_at dksX1_addClip_1 15 rfl rfl)
theorem dX1_addClip_40 : decode cX1_addClip 40 = .ok (.aload_n 0, 1) := dk_42 (dk_at dksX1_addClip_1 16 rfl rfl)
theorem dX1_addClip_41 : decode cX1_addClip 41 = .ok (.getfield 31, 3) := dk_180 0 31 (dk_at dksX1_addClip_1 17 rfl rfl)
theorem dX1_addClip_44 : decode cX1_addClip 44 = .ok (.invokevirtual 89, 3) := dk_182 0 89 (dk_at dksX1_addClip_1 20 rfl rfl)
theorem dX1_addClip_47 : decode cX1_addClip 47 = .ok (.iload_n 1, 1) := dk_27 (dk_at dksX1_addClip_1 23 rfl rfl)
theorem dX1_addClip_48 : decode cX1_addClip 48 = .ok (.invokespecial 126, 3) := dk_183 0 126 (dk_at dksX1_addClip_2 0 rfl rfl)
theorem dX1_addClip_51 : decode cX1_addClip 51 = .ok (.invokevirtual 99, 3) := dk_182 0 99 (dk_at dksX1_addClip_2 3 rfl rfl)
theorem dX1_addClip_54 : decode cX1_addClip 54 = .ok (.pop, 1) := dk_87 (dk_at dksX1_addClip_2 6 rfl rfl)
theorem dX1_addClip_55 : decode cX1_addClip 55 = .ok (.aload_n 0, 1) := dk_42 (dk_at dksX1_addClip_2 7 rfl rfl)
theorem dX1_addClip_56 : decode cX1_addClip 56 = .ok (.getfield 31, 3) := dk_180 0 31 (dk_at dksX1_addClip_2 8 rfl rfl)
theorem dX1_addClip_59 : decode cX1_addClip 59 = .ok (.invokevirtual 89, 3) := dk_182 0 89 (dk_at dksX1_addClip_2 11 rfl rfl)
theorem dX1_addClip_62 : decode cX1_addClip 62 = .ok (.iconst 1, 1) := dk_4 (dk_at dksX1_addClip_2 14 rfl rfl)
theorem dX1_addClip_63 : decode cX1_addClip 63 = .ok (.isub, 1) := dk_100 (dk_at dksX1_addClip_2 15 rfl rfl)
theorem dX1_addClip_64 : decode cX1_addClip 64 = .ok (.ireturn, 1) := dk_172 (dk_at dksX1_addClip_2 16 rfl rfl)
abbrev cX1_addEvent : ByteArray := prog_1_method_13_code
def yX1_addEvent : MethodName := ⟨RX1, "addEvent", "(III)I"⟩
def dkwX1_addEvent_3 : List UInt8 := [28, 29, 183, 0, 141, 182, 0, 142, 25, 4, 180, 0, 137, 182, 0, 89, 172]
abbrev dktX1_addEvent_3 : List UInt8 := dkwX1_addEvent_3 ++ []
def dkwX1_addEvent_2 : List UInt8 := [180, 0, 137, 182, 0, 89, 8, 162, 0, 7, 4, 167, 0, 4, 3, 184, 0, 93, 25, 4, 187, 0, 139, 89]
abbrev dktX1_addEvent_2 : List UInt8 := dkwX1_addEvent_2 ++ dktX1_addEvent_3
def dkwX1_addEvent_1 : List UInt8 := [29, 133, 9, 20, 0, 135, 184, 0, 12, 153, 0, 7, 4, 167, 0, 4, 3, 184, 0, 85, 25, 4]
abbrev dktX1_addEvent_1 : List UInt8 := dkwX1_addEvent_1 ++ dktX1_addEvent_2
def dkwX1_addEvent_0 : List UInt8 := [42, 27, 182, 0, 128, 58, 4, 28, 133, 9, 25, 4, 180, 0, 132, 4, 100, 133, 184, 0, 12, 153, 0, 19]
abbrev dktX1_addEvent_0 : List UInt8 := dkwX1_addEvent_0 ++ dktX1_addEvent_1
theorem dksX1_addEvent_0 : cX1_addEvent.data.toList.drop 0 = dktX1_addEvent_0 := by decide +kernel
theorem dksX1_addEvent_1 : cX1_addEvent.data.toList.drop 24 = dktX1_addEvent_1 := dk_seg dksX1_addEvent_0 24 rfl rfl
theorem dksX1_addEvent_2 : cX1_addEvent.data.toList.drop 46 = dktX1_addEvent_2 := dk_seg dksX1_addEvent_1 22 rfl rfl
theorem dksX1_addEvent_3 : cX1_addEvent.data.toList.drop 70 = dktX1_addEvent_3 := dk_seg dksX1_addEvent_2 24 rfl rfl
theorem dX1_addEvent_0 : decode cX1_addEvent 0 = .ok (.aload_n 0, 1) := dk_42 (dk_at dksX1_addEvent_0 0 rfl rfl)
theorem dX1_addEvent_1 : decode cX1_addEvent 1 = .ok (.iload_n 1, 1) := dk_27 (dk_at dksX1_addEvent_0 1 rfl rfl)
theorem dX1_addEvent_2 : decode cX1_addEvent 2 = .ok (.invokevirtual 128, 3) := dk_182 0 128 (dk_at dksX1_addEvent_0 2 rfl rfl)
theorem dX1_addEvent_5 : decode cX1_addEvent 5 = .ok (.astore 4, 2) := dk_58 4 (dk_at dksX1_addEvent_0 5 rfl rfl)
theorem dX1_addEvent_7 : decode cX1_addEvent 7 = .ok (.iload_n 2, 1) := dk_28 (dk_at dksX1_addEvent_0 7 rfl rfl)
theorem dX1_addEvent_8 : decode cX1_addEvent 8 = .ok (.i2l, 1) := dk_133 (dk_at dksX1_addEvent_0 8 rfl rfl)
theorem dX1_addEvent_9 : decode cX1_addEvent 9 = .ok (.lconst 0, 1) := dk_9 (dk_at dksX1_addEvent_0 9 rfl rfl)
theorem dX1_addEvent_10 : decode cX1_addEvent 10 = .ok (.aload 4, 2) := dk_25 4 (dk_at dksX1_addEvent_0 10 rfl rfl)
theorem dX1_addEvent_12 : decode cX1_addEvent 12 = .ok (.getfield 132, 3) := dk_180 0 132 (dk_at dksX1_addEvent_0 12 rfl rfl)
theorem dX1_addEvent_15 : decode cX1_addEvent 15 = .ok (.iconst 1, 1) := dk_4 (dk_at dksX1_addEvent_0 15 rfl rfl)
theorem dX1_addEvent_16 : decode cX1_addEvent 16 = .ok (.isub, 1) := dk_100 (dk_at dksX1_addEvent_0 16 rfl rfl)
theorem dX1_addEvent_17 : decode cX1_addEvent 17 = .ok (.i2l, 1) := dk_133 (dk_at dksX1_addEvent_0 17 rfl rfl)
theorem dX1_addEvent_18 : decode cX1_addEvent 18 = .ok (.invokestatic 12, 3) := dk_184 0 12 (dk_at dksX1_addEvent_0 18 rfl rfl)
theorem dX1_addEvent_21 : decode cX1_addEvent 21 = .ok (.ifCond .eq 19, 3) := dk_153 0 19 (dk_at dksX1_addEvent_0 21 rfl rfl)
theorem dX1_addEvent_24 : decode cX1_addEvent 24 = .ok (.iload_n 3, 1) := dk_29 (dk_at dksX1_addEvent_1 0 rfl rfl)
theorem dX1_addEvent_25 : decode cX1_addEvent 25 = .ok (.i2l, 1) := dk_133 (dk_at dksX1_addEvent_1 1 rfl rfl)
theorem dX1_addEvent_26 : decode cX1_addEvent 26 = .ok (.lconst 0, 1) := dk_9 (dk_at dksX1_addEvent_1 2 rfl rfl)
theorem dX1_addEvent_27 : decode cX1_addEvent 27 = .ok (.ldc2_w 135, 3) := dk_20 0 135 (dk_at dksX1_addEvent_1 3 rfl rfl)
theorem dX1_addEvent_30 : decode cX1_addEvent 30 = .ok (.invokestatic 12, 3) := dk_184 0 12 (dk_at dksX1_addEvent_1 6 rfl rfl)
theorem dX1_addEvent_33 : decode cX1_addEvent 33 = .ok (.ifCond .eq 7, 3) := dk_153 0 7 (dk_at dksX1_addEvent_1 9 rfl rfl)
theorem dX1_addEvent_36 : decode cX1_addEvent 36 = .ok (.iconst 1, 1) := dk_4 (dk_at dksX1_addEvent_1 12 rfl rfl)
theorem dX1_addEvent_37 : decode cX1_addEvent 37 = .ok (.goto 4, 3) := dk_167 0 4 (dk_at dksX1_addEvent_1 13 rfl rfl)
theorem dX1_addEvent_40 : decode cX1_addEvent 40 = .ok (.iconst 0, 1) := dk_3 (dk_at dksX1_addEvent_1 16 rfl rfl)
theorem dX1_addEvent_41 : decode cX1_addEvent 41 = .ok (.invokestatic 85, 3) := dk_184 0 85 (dk_at dksX1_addEvent_1 17 rfl rfl)
theorem dX1_addEvent_44 : decode cX1_addEvent 44 = .ok (.aload 4, 2) := dk_25 4 (dk_at dksX1_addEvent_1 20 rfl rfl)
theorem dX1_addEvent_46 : decode cX1_addEvent 46 = .ok (.getfield 137, 3) := dk_180 0 137 (dk_at dksX1_addEvent_2 0 rfl rfl)
theorem dX1_addEvent_49 : decode cX1_addEvent 49 = .ok (.invokevirtual 89, 3) := dk_182 0 89 (dk_at dksX1_addEvent_2 3 rfl rfl)
theorem dX1_addEvent_52 : decode cX1_addEvent 52 = .ok (.iconst 5, 1) := dk_8 (dk_at dksX1_addEvent_2 6 rfl rfl)
theorem dX1_addEvent_53 : decode cX1_addEvent 53 = .ok (.if_icmp .ge 7, 3) := dk_162 0 7 (dk_at dksX1_addEvent_2 7 rfl rfl)
theorem dX1_addEvent_56 : decode cX1_addEvent 56 = .ok (.iconst 1, 1) := dk_4 (dk_at dksX1_addEvent_2 10 rfl rfl)
theorem dX1_addEvent_57 : decode cX1_addEvent 57 = .ok (.goto 4, 3) := dk_167 0 4 (dk_at dksX1_addEvent_2 11 rfl rfl)
theorem dX1_addEvent_60 : decode cX1_addEvent 60 = .ok (.iconst 0, 1) := dk_3 (dk_at dksX1_addEvent_2 14 rfl rfl)
theorem dX1_addEvent_61 : decode cX1_addEvent 61 = .ok (.invokestatic 93, 3) := dk_184 0 93 (dk_at dksX1_addEvent_2 15 rfl rfl)
theorem dX1_addEvent_64 : decode cX1_addEvent 64 = .ok (.aload 4, 2) := dk_25 4 (dk_at dksX1_addEvent_2 18 rfl rfl)
theorem dX1_addEvent_66 : decode cX1_addEvent 66 = .ok (.new 139, 3) := dk_187 0 139 (dk_at dksX1_addEvent_2 20 rfl rfl)
theorem dX1_addEvent_69 : decode cX1_addEvent 69 = .ok (.dup, 1) := dk_89 (dk_at dksX1_addEvent_2 23 rfl rfl)
theorem dX1_addEvent_70 : decode cX1_addEvent 70 = .ok (.iload_n 2, 1) := dk_28 (dk_at dksX1_addEvent_3 0 rfl rfl)
theorem dX1_addEvent_71 : decode cX1_addEvent 71 = .ok (.iload_n 3, 1) := dk_29 (dk_at dksX1_addEvent_3 1 rfl rfl)
theorem dX1_addEvent_72 : decode cX1_addEvent 72 = .ok (.invokespecial 141, 3) := dk_183 0 141 (dk_at dksX1_addEvent_3 2 rfl rfl)
theorem dX1_addEvent_75 : decode cX1_addEvent 75 = .ok (.invokevirtual 142, 3) := dk_182 0 142 (dk_at dksX1_addEvent_3 5 rfl rfl)
theorem dX1_addEvent_78 : decode cX1_addEvent 78 = .ok (.aload 4, 2) := dk_25 4 (dk_at dksX1_addEvent_3 8 rfl rfl)
theorem dX1_addEvent_80 : decode cX1_addEvent 80 = .ok (.getfield 137, 3) := dk_180 0 137 (dk_at dksX1_addEvent_3 10 rfl rfl)
theorem dX1_addEvent_83 : decode cX1_addEvent 83 = .ok (.invokevirtual 89, 3) := dk_182 0 89 (dk_at dksX1_addEvent_3 13 rfl rfl)
theorem dX1_addEvent_86 : decode cX1_addEvent 86 = .ok (.ireturn, 1) := dk_172 (dk_at dksX1_addEvent_3 16 rfl rfl)
abbrev cX1_clip : ByteArray := prog_1_method_12_code
def yX1_clip : MethodName := ⟨RX1, "clip", "(I)LAnimationController$Clip;"⟩
def dkwX1_clip_0 : List UInt8 := [27, 42, 180, 0, 31, 182, 0, 89, 184, 0, 103, 42, 180, 0, 31, 27, 182, 0, 107, 192, 0, 124, 176]
abbrev dktX1_clip_0 : List UInt8 := dkwX1_clip_0 ++ []
theorem dksX1_clip_0 : cX1_clip.data.toList.drop 0 = dktX1_clip_0 := by decide +kernel
theorem dX1_clip_0 : decode cX1_clip 0 = .ok (.iload_n 1, 1) := dk_27 (dk_at dksX1_clip_0 0 rfl rfl)
theorem dX1_clip_1 : decode cX1_clip 1 = .ok (.aload_n 0, 1) := dk_42 (dk_at dksX1_clip_0 1 rfl rfl)
theorem dX1_clip_2 : decode cX1_clip 2 = .ok (.getfield 31, 3) := dk_180 0 31 (dk_at dksX1_clip_0 2 rfl rfl)
theorem dX1_clip_5 : decode cX1_clip 5 = .ok (.invokevirtual 89, 3) := dk_182 0 89 (dk_at dksX1_clip_0 5 rfl rfl)
theorem dX1_clip_8 : decode cX1_clip 8 = .ok (.invokestatic 103, 3) := dk_184 0 103 (dk_at dksX1_clip_0 8 rfl rfl)
theorem dX1_clip_11 : decode cX1_clip 11 = .ok (.aload_n 0, 1) := dk_42 (dk_at dksX1_clip_0 11 rfl rfl)
theorem dX1_clip_12 : decode cX1_clip 12 = .ok (.getfield 31, 3) := dk_180 0 31 (dk_at dksX1_clip_0 12 rfl rfl)
theorem dX1_clip_15 : decode cX1_clip 15 = .ok (.iload_n 1, 1) := dk_27 (dk_at dksX1_clip_0 15 rfl rfl)
theorem dX1_clip_16 : decode cX1_clip 16 = .ok (.invokevirtual 107, 3) := dk_182 0 107 (dk_at dksX1_clip_0 16 rfl rfl)
theorem dX1_clip_19 : decode cX1_clip 19 = .ok (.checkcast 124, 3) := dk_192 0 124 (dk_at dksX1_clip_0 19 rfl rfl)
theorem dX1_clip_22 : decode cX1_clip 22 = .ok (.areturn, 1) := dk_176 (dk_at dksX1_clip_0 22 rfl rfl)
abbrev cX1_addClipNode : ByteArray := prog_1_method_15_code
def yX1_addClipNode : MethodName := ⟨RX1, "addClipNode", "(I)I"⟩
def dkwX1_addClipNode_1 : List UInt8 := [184, 0, 93, 42, 187, 0, 145, 89, 44, 183, 0, 147, 182, 0, 150, 172]
abbrev dktX1_addClipNode_1 : List UInt8 := dkwX1_addClipNode_1 ++ []
def dkwX1_addClipNode_0 : List UInt8 := [42, 27, 182, 0, 128, 77, 42, 180, 0, 34, 182, 0, 89, 16, 20, 162, 0, 7, 4, 167, 0, 4, 3]
abbrev dktX1_addClipNode_0 : List UInt8 := dkwX1_addClipNode_0 ++ dktX1_addClipNode_1
theorem dksX1_addClipNode_0 : cX1_addClipNode.data.toList.drop 0 = dktX1_addClipNode_0 := by decide +kernel
theorem dksX1_addClipNode_1 : cX1_addClipNode.data.toList.drop 23 = dktX1_addClipNode_1 := dk_seg dksX1_addClipNode_0 23 rfl rfl
theorem dX1_addClipNode_0 : decode cX1_addClipNode 0 = .ok (.aload_n 0, 1) := dk_42 (dk_at dksX1_addClipNode_0 0 rfl rfl)
theorem dX1_addClipNode_1 : decode cX1_addClipNode 1 = .ok (.iload_n 1, 1) := dk_27 (dk_at dksX1_addClipNode_0 1 rfl rfl)
theorem dX1_addClipNode_2 : decode cX1_addClipNode 2 = .ok (.invokevirtual 128, 3) := dk_182 0 128 (dk_at dksX1_addClipNode_0 2 rfl rfl)
theorem dX1_addClipNode_5 : decode cX1_addClipNode 5 = .ok (.astore_n 2, 1) := dk_77 (dk_at dksX1_addClipNode_0 5 rfl rfl)
theorem dX1_addClipNode_6 : decode cX1_addClipNode 6 = .ok (.aload_n 0, 1) := dk_42 (dk_at dksX1_addClipNode_0 6 rfl rfl)
theorem dX1_addClipNode_7 : decode cX1_addClipNode 7 = .ok (.getfield 34, 3) := dk_180 0 34 (dk_at dksX1_addClipNode_0 7 rfl rfl)
theorem dX1_addClipNode_10 : decode cX1_addClipNode 10 = .ok (.invokevirtual 89, 3) := dk_182 0 89 (dk_at dksX1_addClipNode_0 10 rfl rfl)
theorem dX1_addClipNode_13 : decode cX1_addClipNode 13 = .ok (.bipush 20, 2) := dk_16 20 (dk_at dksX1_addClipNode_0 13 rfl rfl)
theorem dX1_addClipNode_15 : decode cX1_addClipNode 15 = .ok (.if_icmp .ge 7, 3) := dk_162 0 7 (dk_at dksX1_addClipNode_0 15 rfl rfl)
theorem dX1_addClipNode_18 : decode cX1_addClipNode 18 = .ok (.iconst 1, 1) := dk_4 (dk_at dksX1_addClipNode_0 18 rfl rfl)
theorem dX1_addClipNode_19 : decode cX1_addClipNode 19 = .ok (.goto 4, 3) := dk_167 0 4 (dk_at dksX1_addClipNode_0 19 rfl rfl)
theorem dX1_addClipNode_22 : decode cX1_addClipNode 22 = .ok (.iconst 0, 1) := dk_3 (dk_at dksX1_addClipNode_0 22 rfl rfl)
theorem dX1_addClipNode_23 : decode cX1_addClipNode 23 = .ok (.invokestatic 93, 3) := dk_184 0 93 (dk_at dksX1_addClipNode_1 0 rfl rfl)
theorem dX1_addClipNode_26 : decode cX1_addClipNode 26 = .ok (.aload_n 0, 1) := dk_42 (dk_at dksX1_addClipNode_1 3 rfl rfl)
theorem dX1_addClipNode_27 : decode cX1_addClipNode 27 = .ok (.new 145, 3) := dk_187 0 145 (dk_at dksX1_addClipNode_1 4 rfl rfl)
theorem dX1_addClipNode_30 : decode cX1_addClipNode 30 = .ok (.dup, 1) := dk_89 (dk_at dksX1_addClipNode_1 7 rfl rfl)
theorem dX1_addClipNode_31 : decode cX1_addClipNode 31 = .ok (.aload_n 2, 1) := dk_44 (dk_at dksX1_addClipNode_1 8 rfl rfl)
theorem dX1_addClipNode_32 : decode cX1_addClipNode 32 = .ok (.invokespecial 147, 3) := dk_183 0 147 (dk_at dksX1_addClipNode_1 9 rfl rfl)
theorem dX1_addClipNode_35 : decode cX1_addClipNode 35 = .ok (.invokevirtual 150, 3) := dk_182 0 150 (dk_at dksX1_addClipNode_1 12 rfl rfl)
theorem dX1_addClipNode_38 : decode cX1_addClipNode 38 = .ok (.ireturn, 1) := dk_172 (dk_at dksX1_addClipNode_1 15 rfl rfl)
abbrev cX1_addNode : ByteArray := prog_1_method_14_code
def yX1_addNode : MethodName := ⟨RX1, "addNode", "(LAnimationController$Node;)I"⟩
def dkwX1_addNode_0 : List UInt8 := [42, 180, 0, 34, 43, 182, 0, 99, 87, 42, 180, 0, 34, 182, 0, 89, 4, 100, 172]
abbrev dktX1_addNode_0 : List UInt8 := dkwX1_addNode_0 ++ []
theorem dksX1_addNode_0 : cX1_addNode.data.toList.drop 0 = dktX1_addNode_0 := by decide +kernel
theorem dX1_addNode_0 : decode cX1_addNode 0 = .ok (.aload_n 0, 1) := dk_42 (dk_at dksX1_addNode_0 0 rfl rfl)
theorem dX1_addNode_1 : decode cX1_addNode 1 = .ok (.getfield 34, 3) := dk_180 0 34 (dk_at dksX1_addNode_0 1 rfl rfl)
theorem dX1_addNode_4 : decode cX1_addNode 4 = .ok (.aload_n 1, 1) := dk_43 (dk_at dksX1_addNode_0 4 rfl rfl)
theorem dX1_addNode_5 : decode cX1_addNode 5 = .ok (.invokevirtual 99, 3) := dk_182 0 99 (dk_at dksX1_addNode_0 5 rfl rfl)
theorem dX1_addNode_8 : decode cX1_addNode 8 = .ok (.pop, 1) := dk_87 (dk_at dksX1_addNode_0 8 rfl rfl)
theorem dX1_addNode_9 : decode cX1_addNode 9 = .ok (.aload_n 0, 1) := dk_42 (dk_at dksX1_addNode_0 9 rfl rfl)
theorem dX1_addNode_10 : decode cX1_addNode 10 = .ok (.getfield 34, 3) := dk_180 0 34 (dk_at dksX1_addNode_0 10 rfl rfl)
theorem dX1_addNode_13 : decode cX1_addNode 13 = .ok (.invokevirtual 89, 3) := dk_182 0 89 (dk_at dksX1_addNode_0 13 rfl rfl)
theorem dX1_addNode_16 : decode cX1_addNode 16 = .ok (.iconst 1, 1) := dk_4 (dk_at dksX1_addNode_0 16 rfl rfl)
theorem dX1_addNode_17 : decode cX1_addNode 17 = .ok (.isub, 1) := dk_100 (dk_at dksX1_addNode_0 17 rfl rfl)
theorem dX1_addNode_18 : decode cX1_addNode 18 = .ok (.ireturn, 1) := dk_172 (dk_at dksX1_addNode_0 18 rfl rfl)
abbrev cX1_addLine : ByteArray := prog_1_method_16_code
def yX1_addLine : MethodName := ⟨RX1, "addLine", "(I)I"⟩
def dkwX1_addLine_1 : List UInt8 := [162, 0, 7, 4, 167, 0, 4, 3, 184, 0, 93, 42, 187, 0, 157, 89, 44, 183, 0, 159, 182, 0, 150, 172]
abbrev dktX1_addLine_1 : List UInt8 := dkwX1_addLine_1 ++ []
def dkwX1_addLine_0 : List UInt8 := [42, 27, 182, 0, 111, 77, 44, 180, 0, 154, 154, 0, 19, 42, 180, 0, 34, 182, 0, 89, 16, 20]
abbrev dktX1_addLine_0 : List UInt8 := dkwX1_addLine_0 ++ dktX1_addLine_1
theorem dksX1_addLine_0 : cX1_addLine.data.toList.drop 0 = dktX1_addLine_0 := by decide +kernel
theorem dksX1_addLine_1 : cX1_addLine.data.toList.drop 22 = dktX1_addLine_1 := dk_seg dksX1_addLine_0 22 rfl rfl
theorem dX1_addLine_0 : decode cX1_addLine 0 = .ok (.aload_n 0, 1) := dk_42 (dk_at dksX1_addLine_0 0 rfl rfl)
theorem dX1_addLine_1 : decode cX1_addLine 1 = .ok (.iload_n 1, 1) := dk_27 (dk_at dksX1_addLine_0 1 rfl rfl)
theorem dX1_addLine_2 : decode cX1_addLine 2 = .ok (.invokevirtual 111, 3) := dk_182 0 111 (dk_at dksX1_addLine_0 2 rfl rfl)
theorem dX1_addLine_5 : decode cX1_addLine 5 = .ok (.astore_n 2, 1) := dk_77 (dk_at dksX1_addLine_0 5 rfl rfl)
theorem dX1_addLine_6 : decode cX1_addLine 6 = .ok (.aload_n 2, 1) := dk_44 (dk_at dksX1_addLine_0 6 rfl rfl)
theorem dX1_addLine_7 : decode cX1_addLine 7 = .ok (.getfield 154, 3) := dk_180 0 154 (dk_at dksX1_addLine_0 7 rfl rfl)
theorem dX1_addLine_10 : decode cX1_addLine 10 = .ok (.ifCond .ne 19, 3) := dk_154 0 19 (dk_at dksX1_addLine_0 10 rfl rfl)
theorem dX1_addLine_13 : decode cX1_addLine 13 = .ok (.aload_n 0, 1) := dk_42 (dk_at dksX1_addLine_0 13 rfl rfl)
theorem dX1_addLine_14 : decode cX1_addLine 14 = .ok (.getfield 34, 3) := dk_180 0 34 (dk_at dksX1_addLine_0 14 rfl rfl)
theorem dX1_addLine_17 : decode cX1_addLine 17 = .ok (.invokevirtual 89, 3) := dk_182 0 89 (dk_at dksX1_addLine_0 17 rfl rfl)
theorem dX1_addLine_20 : decode cX1_addLine 20 = .ok (.bipush 20, 2) := dk_16 20 (dk_at dksX1_addLine_0 20 rfl rfl)
theorem dX1_addLine_22 : decode cX1_addLine 22 = .ok (.if_icmp .ge 7, 3) := dk_162 0 7 (dk_at dksX1_addLine_1 0 rfl rfl)
theorem dX1_addLine_25 : decode cX1_addLine 25 = .ok (.iconst 1, 1) := dk_4 (dk_at dksX1_addLine_1 3 rfl rfl)
theorem dX1_addLine_26 : decode cX1_addLine 26 = .ok (.goto 4, 3) := dk_167 0 4 (dk_at dksX1_addLine_1 4 rfl rfl)
theorem dX1_addLine_29 : decode cX1_addLine 29 = .ok (.iconst 0, 1) := dk_3 (dk_at dksX1_addLine_1 7 rfl rfl)
theorem dX1_addLine_30 : decode cX1_addLine 30 = .ok (.invokestatic 93, 3) := dk_184 0 93 (dk_at dksX1_addLine_1 8 rfl rfl)
theorem dX1_addLine_33 : decode cX1_addLine 33 = .ok (.aload_n 0, 1) := dk_42 (dk_at dksX1_addLine_1 11 rfl rfl)
theorem dX1_addLine_34 : decode cX1_addLine 34 = .ok (.new 157, 3) := dk_187 0 157 (dk_at dksX1_addLine_1 12 rfl rfl)
theorem dX1_addLine_37 : decode cX1_addLine 37 = .ok (.dup, 1) := dk_89 (dk_at dksX1_addLine_1 15 rfl rfl)
theorem dX1_addLine_38 : decode cX1_addLine 38 = .ok (.aload_n 2, 1) := dk_44 (dk_at dksX1_addLine_1 16 rfl rfl)
theorem dX1_addLine_39 : decode cX1_addLine 39 = .ok (.invokespecial 159, 3) := dk_183 0 159 (dk_at dksX1_addLine_1 17 rfl rfl)
theorem dX1_addLine_42 : decode cX1_addLine 42 = .ok (.invokevirtual 150, 3) := dk_182 0 150 (dk_at dksX1_addLine_1 20 rfl rfl)
theorem dX1_addLine_45 : decode cX1_addLine 45 = .ok (.ireturn, 1) := dk_172 (dk_at dksX1_addLine_1 23 rfl rfl)
abbrev cX1_addChild : ByteArray := prog_1_method_18_code
def yX1_addChild : MethodName := ⟨RX1, "addChild", "(III)I"⟩
def dkwX1_addChild_6 : List UInt8 := [153, 0, 18, 25, 4, 21, 6, 182, 0, 187, 187, 0, 9, 89, 183, 0, 11, 191, 25, 4, 180, 0, 171, 172]
abbrev dktX1_addChild_6 : List UInt8 := dkwX1_addChild_6 ++ []
def dkwX1_addChild_5 : List UInt8 := [4, 167, 0, 4, 3, 184, 0, 93, 25, 4, 25, 5, 29, 182, 0, 181, 54, 6, 42, 182, 0, 184]
abbrev dktX1_addChild_5 : List UInt8 := dkwX1_addChild_5 ++ dktX1_addChild_6
def dkwX1_addChild_4 : List UInt8 := [180, 0, 171, 8, 162, 0, 24, 25, 4, 29, 182, 0, 174, 154, 0, 15, 25, 5, 182, 0, 177, 153, 0, 7]
abbrev dktX1_addChild_4 : List UInt8 := dkwX1_addChild_4 ++ dktX1_addChild_5
def dkwX1_addChild_3 : List UInt8 := [182, 0, 107, 192, 0, 157, 58, 4, 42, 180, 0, 34, 28, 182, 0, 107, 192, 0, 162, 58, 5, 25, 4]
abbrev dktX1_addChild_3 : List UInt8 := dkwX1_addChild_3 ++ dktX1_addChild_4
def dkwX1_addChild_2 : List UInt8 := [20, 0, 169, 184, 0, 12, 153, 0, 7, 4, 167, 0, 4, 3, 184, 0, 85, 42, 180, 0, 34, 27]
abbrev dktX1_addChild_2 : List UInt8 := dkwX1_addChild_2 ++ dktX1_addChild_3
def dkwX1_addChild_1 : List UInt8 := [180, 0, 34, 27, 182, 0, 107, 193, 0, 157, 153, 0, 26, 28, 27, 162, 0, 21, 29, 133, 20, 0, 167]
abbrev dktX1_addChild_1 : List UInt8 := dkwX1_addChild_1 ++ dktX1_addChild_2
def dkwX1_addChild_0 : List UInt8 := [27, 42, 180, 0, 34, 182, 0, 89, 184, 0, 103, 28, 42, 180, 0, 34, 182, 0, 89, 184, 0, 103, 42]
abbrev dktX1_addChild_0 : List UInt8 := dkwX1_addChild_0 ++ dktX1_addChild_1
theorem dksX1_addChild_0 : cX1_addChild.data.toList.drop 0 = dktX1_addChild_0 := by decide +kernel
theorem dksX1_addChild_1 : cX1_addChild.data.toList.drop 23 = dktX1_addChild_1 := dk_seg dksX1_addChild_0 23 rfl rfl
theorem dksX1_addChild_2 : cX1_addChild.data.toList.drop 46 = dktX1_addChild_2 := dk_seg dksX1_addChild_1 23 rfl rfl
theorem dksX1_addChild_3 : cX1_addChild.data.toList.drop 68 = dktX1_addChild_3 := dk_seg dksX1_addChild_2 22 rfl rfl
theorem dksX1_addChild_4 : cX1_addChild.data.toList.drop 91 = dktX1_addChild_4 := dk_seg dksX1_addChild_3 23 rfl rfl
theorem dksX1_addChild_5 : cX1_addChild.data.toList.drop 115 = dktX1_addChild_5 := dk_seg dksX1_addChild_4 24 rfl rfl
theorem dksX1_addChild_6 : cX1_addChild.data.toList.drop 137 = dktX1_addChild_6 := dk_seg dksX1_addChild_5 22 rfl rfl
theorem dX1_addChild_0 : decode cX1_addChild 0 = .ok (.iload_n 1, 1) := dk_27 (dk_at dksX1_addChild_0 0 rfl rfl)
theorem dX1_addChild_1 : decode cX1_addChild 1 = .ok (.aload_n 0, 1) := dk_42 (dk_at dksX1_addChild_0 1 rfl rfl)
theorem dX1_addChild_2 : decode cX1_addChild 2 = .ok (.getfield 34, 3) := dk_180 0 34 (dk_at dksX1_addChild_0 2 rfl rfl)
theorem dX1_addChild_5 : decode cX1_addChild 5 = .ok (.invokevirtual 89, 3) := dk_182 0 89 (dk_at dksX1_addChild_0 5 rfl rfl)
theorem dX1_addChild_8 : decode cX1_addChild 8 = .ok (.invokestatic 103, 3) := dk_184 0 103 (dk_at dksX1_addChild_0 8 rfl rfl)
theorem dX1_addChild_11 : decode cX1_addChild 11 = .ok (.iload_n 2, 1) := dk_28 (dk_at dksX1_addChild_0 11 rfl rfl)
theorem dX1_addChild_12 : decode cX1_addChild 12 = .ok (.aload_n 0, 1) := dk_42 (dk_at dksX1_addChild_0 12 rfl rfl)
theorem dX1_addChild_13 : decode cX1_addChild 13 = .ok (.getfield 34, 3) := dk_180 0 34 (dk_at dksX1_addChild_0 13 rfl rfl)
theorem dX1_addChild_16 : decode cX1_addChild 16 = .ok (.invokevirtual 89, 3) := dk_182 0 89 (dk_at dksX1_addChild_0 16 rfl rfl)
theorem dX1_addChild_19 : decode cX1_addChild 19 = .ok (.invokestatic 103, 3) := dk_184 0 103 (dk_at dksX1_addChild_0 19 rfl rfl)
theorem dX1_addChild_22 : decode cX1_addChild 22 = .ok (.aload_n 0, 1) := dk_42 (dk_at dksX1_addChild_0 22 rfl rfl)
theorem dX1_addChild_23 : decode cX1_addChild 23 = .ok (.getfield 34, 3) := dk_180 0 34 (dk_at dksX1_addChild_1 0 rfl rfl)
theorem dX1_addChild_26 : decode cX1_addChild 26 = .ok (.iload_n 1, 1) := dk_27 (dk_at dksX1_addChild_1 3 rfl rfl)
theorem dX1_addChild_27 : decode cX1_addChild 27 = .ok (.invokevirtual 107, 3) := dk_182 0 107 (dk_at dksX1_addChild_1 4 rfl rfl)
theorem dX1_addChild_30 : decode cX1_addChild 30 = .ok (.instanceof 157, 3) := dk_193 0 157 (dk_at dksX1_addChild_1 7 rfl rfl)
theorem dX1_addChild_33 : decode cX1_addChild 33 = .ok (.ifCond .eq 26, 3) := dk_153 0 26 (dk_at dksX1_addChild_1 10 rfl rfl)
theorem dX1_addChild_36 : decode cX1_addChild 36 = .ok (.iload_n 2, 1) := dk_28 (dk_at dksX1_addChild_1 13 rfl rfl)
theorem dX1_addChild_37 : decode cX1_addChild 37 = .ok (.iload_n 1, 1) := dk_27 (dk_at dksX1_addChild_1 14 rfl rfl)
theorem dX1_addChild_38 : decode cX1_addChild 38 = .ok (.if_icmp .ge 21, 3) := dk_162 0 21 (dk_at dksX1_addChild_1 15 rfl rfl)
theorem dX1_addChild_41 : decode cX1_addChild 41 = .ok (.iload_n 3, 1) := dk_29 (dk_at dksX1_addChild_1 18 rfl rfl)
theorem dX1_addChild_42 : decode cX1_addChild 42 = .ok (.i2l, 1) := dk_133 (dk_at dksX1_addChild_1 19 rfl rfl)
theorem dX1_addChild_43 : decode cX1_addChild 43 = .ok (.ldc2_w 167, 3) := dk_20 0 167 (dk_at dksX1_addChild_1 20 rfl rfl)
theorem dX1_addChild_46 : decode cX1_addChild 46 = .ok (.ldc2_w 169, 3) := dk_20 0 169 (dk_at dksX1_addChild_2 0 rfl rfl)
theorem dX1_addChild_49 : decode cX1_addChild 49 = .ok (.invokestatic 12, 3) := dk_184 0 12 (dk_at dksX1_addChild_2 3 rfl rfl)
theorem dX1_addChild_52 : decode cX1_addChild 52 = .ok (.ifCond .eq 7, 3) := dk_153 0 7 (dk_at dksX1_addChild_2 6 rfl rfl)
theorem dX1_addChild_55 : decode cX1_addChild 55 = .ok (.iconst 1, 1) := dk_4 (dk_at dksX1_addChild_2 9 rfl rfl)
theorem dX1_addChild_56 : decode cX1_addChild 56 = .ok (.goto 4, 3) := dk_167 0 4 (dk_at dksX1_addChild_2 10 rfl rfl)
theorem dX1_addChild_59 : decode cX1_addChild 59 = .ok (.iconst 0, 1) := dk_3 (dk_at dksX1_addChild_2 13 rfl rfl)
theorem dX1_addChild_60 : decode cX1_addChild 60 = .ok (.invokestatic 85, 3) := dk_184 0 85 (dk_at dksX1_addChild_2 14 rfl rfl)
theorem dX1_addChild_63 : decode cX1_addChild 63 = .ok (.aload_n 0, 1) := dk_42 (dk_at dksX1_addChild_2 17 rfl rfl)
theorem dX1_addChild_64 : decode cX1_addChild 64 = .ok (.getfield 34, 3) := dk_180 0 34 (dk_at dksX1_addChild_2 18 rfl rfl)
theorem dX1_addChild_67 : decode cX1_addChild 67 = .ok (.iload_n 1, 1) := dk_27 (dk_at dksX1_addChild_2 21 rfl rfl)
theorem dX1_addChild_68 : decode cX1_addChild 68 = .ok (.invokevirtual 107, 3) := dk_182 0 107 (dk_at dksX1_addChild_3 0 rfl rfl)
theorem dX1_addChild_71 : decode cX1_addChild 71 = .ok (.checkcast 157, 3) := dk_192 0 157 (dk_at dksX1_addChild_3 3 rfl rfl)
theorem dX1_addChild_74 : decode cX1_addChild 74 = .ok (.astore 4, 2) := dk_58 4 (dk_at dksX1_addChild_3 6 rfl rfl)
theorem dX1_addChild_76 : decode cX1_addChild 76 = .ok (.aload_n 0, 1) := dk_42 (dk_at dksX1_addChild_3 8 rfl rfl)
theorem dX1_addChild_77 : decode cX1_addChild 77 = .ok (.getfield 34, 3) := dk_180 0 34 (dk_at dksX1_addChild_3 9 rfl rfl)
theorem dX1_addChild_80 : decode cX1_addChild 80 = .ok (.iload_n 2, 1) := dk_28 (dk_at dksX1_addChild_3 12 rfl rfl)
theorem dX1_addChild_81 : decode cX1_addChild 81 = .ok (.invokevirtual 107, 3) := dk_182 0 107 (dk_at dksX1_addChild_3 13 rfl rfl)
theorem dX1_addChild_84 : decode cX1_addChild 84 = .ok (.checkcast 162, 3) := dk_192 0 162 (dk_at dksX1_addChild_3 16 rfl rfl)
theorem dX1_addChild_87 : decode cX1_addChild 87 = .ok (.astore 5, 2) := dk_58 5 (dk_at dksX1_addChild_3 19 rfl rfl)
theorem dX1_addChild_89 : decode cX1_addChild 89 = .ok (.aload 4, 2) := dk_25 4 (dk_at dksX1_addChild_3 21 rfl rfl)
theorem dX1_addChild_91 : decode cX1_addChild 91 = .ok (.getfield 171, 3) := dk_180 0 171 (dk_at dksX1_addChild_4 0 rfl rfl)
theorem dX1_addChild_94 : decode cX1_addChild 94 = .ok (.iconst 5, 1) := dk_8 (dk_at dksX1_addChild_4 3 rfl rfl)
theorem dX1_addChild_95 : decode cX1_addChild 95 = .ok (.if_icmp .ge 24, 3) := dk_162 0 24 (dk_at dksX1_addChild_4 4 rfl rfl)
theorem dX1_addChild_98 : decode cX1_addChild 98 = .ok (.aload 4, 2) := dk_25 4 (dk_at dksX1_addChild_4 7 rfl rfl)
theorem dX1_addChild_100 : decode cX1_addChild 100 = .ok (.iload_n 3, 1) := dk_29 (dk_at dksX1_addChild_4 9 rfl rfl)
theorem dX1_addChild_101 : decode cX1_addChild 101 = .ok (.invokevirtual 174, 3) := dk_182 0 174 (dk_at dksX1_addChild_4 10 rfl rfl)
theorem dX1_addChild_104 : decode cX1_addChild 104 = .ok (.ifCond .ne 15, 3) := dk_154 0 15 (dk_at dksX1_addChild_4 13 rfl rfl)
theorem dX1_addChild_107 : decode cX1_addChild 107 = .ok (.aload 5, 2) := dk_25 5 (dk_at dksX1_addChild_4 16 rfl rfl)
theorem dX1_addChild_109 : decode cX1_addChild 109 = .ok (.invokevirtual 177, 3) := dk_182 0 177 (dk_at dksX1_addChild_4 18 rfl rfl)
theorem dX1_addChild_112 : decode cX1_addChild 112 = .ok (.ifCond .eq 7, 3) := dk_153 0 7 (dk_at dksX1_addChild_4 21 rfl rfl)
theorem dX1_addChild_115 : decode cX1_addChild 115 = .ok (.iconst 1, 1) := dk_4 (dk_at dksX1_addChild_5 0 rfl rfl)
theorem dX1_addChild_116 : decode cX1_addChild 116 = .ok (.goto 4, 3) := dk_167 0 4 (dk_at dksX1_addChild_5 1 rfl rfl)
theorem dX1_addChild_119 : decode cX1_addChild 119 = .ok (.iconst 0, 1) := dk_3 (dk_at dksX1_addChild_5 4 rfl rfl)
theorem dX1_addChild_120 : decode cX1_addChild 120 = .ok (.invokestatic 93, 3) := dk_184 0 93 (dk_at dksX1_addChild_5 5 rfl rfl)
theorem dX1_addChild_123 : decode cX1_addChild 123 = .ok (.aload 4, 2) := dk_25 4 (dk_at dksX1_addChild_5 8 rfl rfl)
theorem dX1_addChild_125 : decode cX1_addChild 125 = .ok (.aload 5, 2) := dk_25 5 (dk_at dksX1_addChild_5 10 rfl rfl)
theorem dX1_addChild_127 : decode cX1_addChild 127 = .ok (.iload_n 3, 1) := dk_29 (dk_at dksX1_addChild_5 12 rfl rfl)
theorem dX1_addChild_128 : decode cX1_addChild 128 = .ok (.invokevirtual 181, 3) := dk_182 0 181 (dk_at dksX1_addChild_5 13 rfl rfl)
theorem dX1_addChild_131 : decode cX1_addChild 131 = .ok (.istore 6, 2) := dk_54 6 (dk_at dksX1_addChild_5 16 rfl rfl)
theorem dX1_addChild_133 : decode cX1_addChild 133 = .ok (.aload_n 0, 1) := dk_42 (dk_at dksX1_addChild_5 18 rfl rfl)
theorem dX1_addChild_134 : decode cX1_addChild 134 = .ok (.invokevirtual 184, 3) := dk_182 0 184 (dk_at dksX1_addChild_5 19 rfl rfl)
theorem dX1_addChild_137 : decode cX1_addChild 137 = .ok (.ifCond .eq 18, 3) := dk_153 0 18 (dk_at dksX1_addChild_6 0 rfl rfl)
theorem dX1_addChild_140 : decode cX1_addChild 140 = .ok (.aload 4, 2) := dk_25 4 (dk_at dksX1_addChild_6 3 rfl rfl)
theorem dX1_addChild_142 : decode cX1_addChild 142 = .ok (.iload 6, 2) := dk_21 6 (dk_at dksX1_addChild_6 5 rfl rfl)
theorem dX1_addChild_144 : decode cX1_addChild 144 = .ok (.invokevirtual 187, 3) := dk_182 0 187 (dk_at dksX1_addChild_6 7 rfl rfl)
theorem dX1_addChild_147 : decode cX1_addChild 147 = .ok (.new 9, 3) := dk_187 0 9 (dk_at dksX1_addChild_6 10 rfl rfl)
theorem dX1_addChild_150 : decode cX1_addChild 150 = .ok (.dup, 1) := dk_89 (dk_at dksX1_addChild_6 13 rfl rfl)
theorem dX1_addChild_151 : decode cX1_addChild 151 = .ok (.invokespecial 11, 3) := dk_183 0 11 (dk_at dksX1_addChild_6 14 rfl rfl)
theorem dX1_addChild_154 : decode cX1_addChild 154 = .ok (.athrow, 1) := dk_191 (dk_at dksX1_addChild_6 17 rfl rfl)
theorem dX1_addChild_155 : decode cX1_addChild 155 = .ok (.aload 4, 2) := dk_25 4 (dk_at dksX1_addChild_6 18 rfl rfl)
theorem dX1_addChild_157 : decode cX1_addChild 157 = .ok (.getfield 171, 3) := dk_180 0 171 (dk_at dksX1_addChild_6 20 rfl rfl)
theorem dX1_addChild_160 : decode cX1_addChild 160 = .ok (.ireturn, 1) := dk_172 (dk_at dksX1_addChild_6 23 rfl rfl)
abbrev cX1_isTooDeep : ByteArray := prog_1_method_17_code
def yX1_isTooDeep : MethodName := ⟨RX1, "isTooDeep", "()Z"⟩
def dkwX1_isTooDeep_2 : List UInt8 := [167, 255, 214, 27, 172]
abbrev dktX1_isTooDeep_2 : List UInt8 := dkwX1_isTooDeep_2 ++ []
def dkwX1_isTooDeep_1 : List UInt8 := [182, 0, 107, 192, 0, 162, 182, 0, 164, 7, 164, 0, 7, 4, 167, 0, 4, 3, 60, 132, 2, 1]
abbrev dktX1_isTooDeep_1 : List UInt8 := dkwX1_isTooDeep_1 ++ dktX1_isTooDeep_2
def dkwX1_isTooDeep_0 : List UInt8 := [3, 60, 3, 61, 28, 42, 180, 0, 34, 182, 0, 89, 162, 0, 37, 27, 154, 0, 33, 42, 180, 0, 34, 28]
abbrev dktX1_isTooDeep_0 : List UInt8 := dkwX1_isTooDeep_0 ++ dktX1_isTooDeep_1
theorem dksX1_isTooDeep_0 : cX1_isTooDeep.data.toList.drop 0 = dktX1_isTooDeep_0 := by decide +kernel
theorem dksX1_isTooDeep_1 : cX1_isTooDeep.data.toList.drop 24 = dktX1_isTooDeep_1 := dk_seg dksX1_isTooDeep_0 24 rfl rfl
theorem dksX1_isTooDeep_2 : cX1_isTooDeep.data.toList.drop 46 = dktX1_isTooDeep_2 := dk_seg dksX1_isTooDeep_1 22 rfl rfl
theorem dX1_isTooDeep_0 : decode cX1_isTooDeep 0 = .ok (.iconst 0, 1) := dk_3 (dk_at dksX1_isTooDeep_0 0 rfl rfl)
theorem dX1_isTooDeep_1 : decode cX1_isTooDeep 1 = .ok (.istore_n 1, 1) := dk_60 (dk_at dksX1_isTooDeep_0 1 rfl rfl)
theorem dX1_isTooDeep_2 : decode cX1_isTooDeep 2 = .ok (.iconst 0, 1) := dk_3 (dk_at dksX1_isTooDeep_0 2 rfl rfl)
theorem dX1_isTooDeep_3 : decode cX1_isTooDeep 3 = .ok (.istore_n 2, 1) := dk_61 (dk_at dksX1_isTooDeep_0 3 rfl rfl)
theorem dX1_isTooDeep_4 : decode cX1_isTooDeep 4 = .ok (.iload_n 2, 1) := dk_28 (dk_at dksX1_isTooDeep_0 4 rfl rfl)
theorem dX1_isTooDeep_5 : decode cX1_isTooDeep 5 = .ok (.aload_n 0, 1) := dk_42 (dk_at dksX1_isTooDeep_0 5 rfl rfl)
theorem dX1_isTooDeep_6 : decode cX1_isTooDeep 6 = .ok (.getfield 34, 3) := dk_180 0 34 (dk_at dksX1_isTooDeep_0 6 rfl rfl)
theorem dX1_isTooDeep_9 : decode cX1_isTooDeep 9 = .ok (.invokevirtual 89, 3) := dk_182 0 89 (dk_at dksX1_isTooDeep_0 9 rfl rfl)
theorem dX1_isTooDeep_12 : decode cX1_isTooDeep 12 = .ok (.if_icmp .ge 37, 3) := dk_162 0 37 (dk_at dksX1_isTooDeep_0 12 rfl rfl)
theorem dX1_isTooDeep_15 : decode cX1_isTooDeep 15 = .ok (.iload_n 1, 1) := dk_27 (dk_at dksX1_isTooDeep_0 15 rfl rfl)
theorem dX1_isTooDeep_16 : decode cX1_isTooDeep 16 = .ok (.ifCond .ne 33, 3) := dk_154 0 33 (dk_at dksX1_isTooDeep_0 16 rfl rfl)
theorem dX1_isTooDeep_19 : decode cX1_isTooDeep 19 = .ok (.aload_n 0, 1) := dk_42 (dk_at dksX1_isTooDeep_0 19 rfl rfl)
theorem dX1_isTooDeep_20 : decode cX1_isTooDeep 20 = .ok (.getfield 34, 3) := dk_180 0 34 (dk_at dksX1_isTooDeep_0 20 rfl rfl)
theorem dX1_isTooDeep_23 : decode cX1_isTooDeep 23 = .ok (.iload_n 2, 1) := dk_28 (dk_at dksX1_isTooDeep_0 23 rfl rfl)
theorem dX1_isTooDeep_24 : decode cX1_isTooDeep 24 = .ok (.invokevirtual 107, 3) := dk_182 0 107 (dk_at dksX1_isTooDeep_1 0 rfl rfl)
theorem dX1_isTooDeep_27 : decode cX1_isTooDeep 27 = .ok (.checkcast 162, 3) := dk_192 0 162 (dk_at dksX1_isTooDeep_1 3 rfl rfl)
theorem dX1_isTooDeep_30 : decode cX1_isTooDeep 30 = .ok (.invokevirtual 164, 3) := dk_182 0 164 (dk_at dksX1_isTooDeep_1 6 rfl rfl)
theorem dX1_isTooDeep_33 : decode cX1_isTooDeep 33 = .ok (.iconst 4, 1) := dk_7 (dk_at dksX1_isTooDeep_1 9 rfl rfl)
theorem dX1_isTooDeep_34 : decode cX1_isTooDeep 34 = .ok (.if_icmp .le 7, 3) := dk_164 0 7 (dk_at dksX1_isTooDeep_1 10 rfl rfl)
theorem dX1_isTooDeep_37 : decode cX1_isTooDeep 37 = .ok (.iconst 1, 1) := dk_4 (dk_at dksX1_isTooDeep_1 13 rfl rfl)
theorem dX1_isTooDeep_38 : decode cX1_isTooDeep 38 = .ok (.goto 4, 3) := dk_167 0 4 (dk_at dksX1_isTooDeep_1 14 rfl rfl)
theorem dX1_isTooDeep_41 : decode cX1_isTooDeep 41 = .ok (.iconst 0, 1) := dk_3 (dk_at dksX1_isTooDeep_1 17 rfl rfl)
theorem dX1_isTooDeep_42 : decode cX1_isTooDeep 42 = .ok (.istore_n 1, 1) := dk_60 (dk_at dksX1_isTooDeep_1 18 rfl rfl)
theorem dX1_isTooDeep_43 : decode cX1_isTooDeep 43 = .ok (.iinc 2 1, 3) := dk_132 2 1 (dk_at dksX1_isTooDeep_1 19 rfl rfl)
theorem dX1_isTooDeep_46 : decode cX1_isTooDeep 46 = .ok (.goto (-42), 3) := dk_167 255 214 (dk_at dksX1_isTooDeep_2 0 rfl rfl)
theorem dX1_isTooDeep_49 : decode cX1_isTooDeep 49 = .ok (.iload_n 1, 1) := dk_27 (dk_at dksX1_isTooDeep_2 3 rfl rfl)
theorem dX1_isTooDeep_50 : decode cX1_isTooDeep 50 = .ok (.ireturn, 1) := dk_172 (dk_at dksX1_isTooDeep_2 4 rfl rfl)
abbrev cX1_addState : ByteArray := prog_1_method_20_code
def yX1_addState : MethodName := ⟨RX1, "addState", "(IIZI)I"⟩
def dkwX1_addState_6 : List UInt8 := [25, 5, 183, 0, 208, 181, 0, 211, 25, 5, 180, 0, 215, 172]
abbrev dktX1_addState_6 : List UInt8 := dkwX1_addState_6 ++ []
def dkwX1_addState_5 : List UInt8 := [25, 5, 182, 0, 99, 87, 42, 180, 0, 37, 182, 0, 89, 4, 160, 0, 17, 42, 187, 0, 206, 89, 42]
abbrev dktX1_addState_5 : List UInt8 := dkwX1_addState_5 ++ dktX1_addState_6
def dkwX1_addState_4 : List UInt8 := [42, 180, 0, 34, 27, 182, 0, 107, 192, 0, 162, 28, 29, 21, 4, 183, 0, 203, 58, 5, 42, 180, 0, 37]
abbrev dktX1_addState_4 : List UInt8 := dkwX1_addState_4 ++ dktX1_addState_5
def dkwX1_addState_3 : List UInt8 := [16, 10, 162, 0, 7, 4, 167, 0, 4, 3, 184, 0, 93, 187, 0, 201, 89, 42, 180, 0, 37, 182, 0, 89]
abbrev dktX1_addState_3 : List UInt8 := dkwX1_addState_3 ++ dktX1_addState_4
def dkwX1_addState_2 : List UInt8 := [180, 0, 34, 27, 182, 0, 107, 192, 0, 162, 182, 0, 177, 153, 0, 19, 42, 180, 0, 37, 182, 0, 89]
abbrev dktX1_addState_2 : List UInt8 := dkwX1_addState_2 ++ dktX1_addState_3
def dkwX1_addState_1 : List UInt8 := [21, 4, 133, 9, 20, 0, 199, 184, 0, 12, 153, 0, 7, 4, 167, 0, 4, 3, 184, 0, 85, 42]
abbrev dktX1_addState_1 : List UInt8 := dkwX1_addState_1 ++ dktX1_addState_2
def dkwX1_addState_0 : List UInt8 := [27, 42, 180, 0, 34, 182, 0, 89, 184, 0, 103, 28, 133, 10, 20, 0, 197, 184, 0, 12, 153, 0, 20]
abbrev dktX1_addState_0 : List UInt8 := dkwX1_addState_0 ++ dktX1_addState_1
theorem dksX1_addState_0 : cX1_addState.data.toList.drop 0 = dktX1_addState_0 := by decide +kernel
theorem dksX1_addState_1 : cX1_addState.data.toList.drop 23 = dktX1_addState_1 := dk_seg dksX1_addState_0 23 rfl rfl
theorem dksX1_addState_2 : cX1_addState.data.toList.drop 45 = dktX1_addState_2 := dk_seg dksX1_addState_1 22 rfl rfl
theorem dksX1_addState_3 : cX1_addState.data.toList.drop 68 = dktX1_addState_3 := dk_seg dksX1_addState_2 23 rfl rfl
theorem dksX1_addState_4 : cX1_addState.data.toList.drop 92 = dktX1_addState_4 := dk_seg dksX1_addState_3 24 rfl rfl
theorem dksX1_addState_5 : cX1_addState.data.toList.drop 116 = dktX1_addState_5 := dk_seg dksX1_addState_4 24 rfl rfl
theorem dksX1_addState_6 : cX1_addState.data.toList.drop 139 = dktX1_addState_6 := dk_seg dksX1_addState_5 23 rfl rfl
theorem dX1_addState_0 : decode cX1_addState 0 = .ok (.iload_n 1, 1) := dk_27 (dk_at dksX1_addState_0 0 rfl rfl)
theorem dX1_addState_1 : decode cX1_addState 1 = .ok (.aload_n 0, 1) := dk_42 (dk_at dksX1_addState_0 1 rfl rfl)
theorem dX1_addState_2 : decode cX1_addState 2 = .ok (.getfield 34, 3) := dk_180 0 34 (dk_at dksX1_addState_0 2 rfl rfl)
theorem dX1_addState_5 : decode cX1_addState 5 = .ok (.invokevirtual 89, 3) := dk_182 0 89 (dk_at dksX1_addState_0 5 rfl rfl)
theorem dX1_addState_8 : decode cX1_addState 8 = .ok (.invokestatic 103, 3) := dk_184 0 103 (dk_at dksX1_addState_0 8 rfl rfl)
theorem dX1_addState_11 : decode cX1_addState 11 = .ok (.iload_n 2, 1) := dk_28 (dk_at dksX1_addState_0 11 rfl rfl)
theorem dX1_addState_12 : decode cX1_addState 12 = .ok (.i2l, 1) := dk_133 (dk_at dksX1_addState_0 12 rfl rfl)
theorem dX1_addState_13 : decode cX1_addState 13 = .ok (.lconst 1, 1) := dk_10 (dk_at dksX1_addState_0 13 rfl rfl)
theorem dX1_addState_14 : decode cX1_addState 14 = .ok (.ldc2_w 197, 3) := dk_20 0 197 (dk_at dksX1_addState_0 14 rfl rfl)
theorem dX1_addState_17 : decode cX1_addState 17 = .ok (.invokestatic 12, 3) := dk_184 0 12 (dk_at dksX1_addState_0 17 rfl rfl)
theorem dX1_addState_20 : decode cX1_addState 20 = .ok (.ifCond .eq 20, 3) := dk_153 0 20 (dk_at dksX1_addState_0 20 rfl rfl)
theorem dX1_addState_23 : decode cX1_addState 23 = .ok (.iload 4, 2) := dk_21 4 (dk_at dksX1_addState_1 0 rfl rfl)
theorem dX1_addState_25 : decode cX1_addState 25 = .ok (.i2l, 1) := dk_133 (dk_at dksX1_addState_1 2 rfl rfl)
theorem dX1_addState_26 : decode cX1_addState 26 = .ok (.lconst 0, 1) := dk_9 (dk_at dksX1_addState_1 3 rfl rfl)
theorem dX1_addState_27 : decode cX1_addState 27 = .ok (.ldc2_w 199, 3) := dk_20 0 199 (dk_at dksX1_addState_1 4 rfl rfl)
theorem dX1_addState_30 : decode cX1_addState 30 = .ok (.invokestatic 12, 3) := dk_184 0 12 (dk_at dksX1_addState_1 7 rfl rfl)
theorem dX1_addState_33 : decode cX1_addState 33 = .ok (.ifCond .eq 7, 3) := dk_153 0 7 (dk_at dksX1_addState_1 10 rfl rfl)
theorem dX1_addState_36 : decode cX1_addState 36 = .ok (.iconst 1, 1) := dk_4 (dk_at dksX1_addState_1 13 rfl rfl)
theorem dX1_addState_37 : decode cX1_addState 37 = .ok (.goto 4, 3) := dk_167 0 4 (dk_at dksX1_addState_1 14 rfl rfl)
theorem dX1_addState_40 : decode cX1_addState 40 = .ok (.iconst 0, 1) := dk_3 (dk_at dksX1_addState_1 17 rfl rfl)
theorem dX1_addState_41 : decode cX1_addState 41 = .ok (.invokestatic 85, 3) := dk_184 0 85 (dk_at dksX1_addState_1 18 rfl rfl)
theorem dX1_addState_44 : decode cX1_addState 44 = .ok (.aload_n 0, 1) := dk_42 (dk_at dksX1_addState_1 21 rfl rfl)
theorem dX1_addState_45 : decode cX1_addState 45 = .ok (.getfield 34, 3) := dk_180 0 34 (dk_at dksX1_addState_2 0 rfl rfl)
theorem dX1_addState_48 : decode cX1_addState 48 = .ok (.iload_n 1, 1) := dk_27 (dk_at dksX1_addState_2 3 rfl rfl)
theorem dX1_addState_49 : decode cX1_addState 49 = .ok (.invokevirtual 107, 3) := dk_182 0 107 (dk_at dksX1_addState_2 4 rfl rfl)
theorem dX1_addState_52 : decode cX1_addState 52 = .ok (.checkcast 162, 3) := dk_192 0 162 (dk_at dksX1_addState_2 7 rfl rfl)
theorem dX1_addState_55 : decode cX1_addState 55 = .ok (.invokevirtual 177, 3) := dk_182 0 177 (dk_at dksX1_addState_2 10 rfl rfl)
theorem dX1_addState_58 : decode cX1_addState 58 = .ok (.ifCond .eq 19, 3) := dk_153 0 19 (dk_at dksX1_addState_2 13 rfl rfl)
theorem dX1_addState_61 : decode cX1_addState 61 = .ok (.aload_n 0, 1) := dk_42 (dk_at dksX1_addState_2 16 rfl rfl)
theorem dX1_addState_62 : decode cX1_addState 62 = .ok (.getfield 37, 3) := dk_180 0 37 (dk_at dksX1_addState_2 17 rfl rfl)
theorem dX1_addState_65 : decode cX1_addState 65 = .ok (.invokevirtual 89, 3) := dk_182 0 89 (dk_at dksX1_addState_2 20 rfl rfl)
theorem dX1_addState_68 : decode cX1_addState 68 = .ok (.bipush 10, 2) := dk_16 10 (dk_at dksX1_addState_3 0 rfl rfl)
theorem dX1_addState_70 : decode cX1_addState 70 = .ok (.if_icmp .ge 7, 3) := dk_162 0 7 (dk_at dksX1_addState_3 2 rfl rfl)
theorem dX1_addState_73 : decode cX1_addState 73 = .ok (.iconst 1, 1) := dk_4 (dk_at dksX1_addState_3 5 rfl rfl)
theorem dX1_addState_74 : decode cX1_addState 74 = .ok (.goto 4, 3) := dk_167 0 4 (dk_at dksX1_addState_3 6 rfl rfl)
theorem dX1_addState_77 : decode cX1_addState 77 = .ok (.iconst 0, 1) := dk_3 (dk_at dksX1_addState_3 9 rfl rfl)
theorem dX1_addState_78 : decode cX1_addState 78 = .ok (.invokestatic 93, 3) := dk_184 0 93 (dk_at dksX1_addState_3 10 rfl rfl)
theorem dX1_addState_81 : decode cX1_addState 81 = .ok (.new 201, 3) := dk_187 0 201 (dk_at dksX1_addState_3 13 rfl rfl)
theorem dX1_addState_84 : decode cX1_addState 84 = .ok (.dup, 1) := dk_89 (dk_at dksX1_addState_3 16 rfl rfl)
theorem dX1_addState_85 : decode cX1_addState 85 = .ok (.aload_n 0, 1) := dk_42 (dk_at dksX1_addState_3 17 rfl rfl)
theorem dX1_addState_86 : decode cX1_addState 86 = .ok (.getfield 37, 3) := dk_180 0 37 (dk_at dksX1_addState_3 18 rfl rfl)
theorem dX1_addState_89 : decode cX1_addState 89 = .ok (.invokevirtual 89, 3) := dk_182 0 89 (dk_at dksX1_addState_3 21 rfl rfl)
theorem dX1_addState_92 : decode cX1_addState 92 = .ok (.aload_n 0, 1) := dk_42 (dk_at dksX1_addState_4 0 rfl rfl)
theorem dX1_addState_93 : decode cX1_addState 93 = .ok (.getfield 34, 3) := dk_180 0 34 (dk_at dksX1_addState_4 1 rfl rfl)
theorem dX1_addState_96 : decode cX1_addState 96 = .ok (.iload_n 1, 1) := dk_27 (dk_at dksX1_addState_4 4 rfl rfl)
theorem dX1_addState_97 : decode cX1_addState 97 = .ok (.invokevirtual 107, 3) := dk_182 0 107 (dk_at dksX1_addState_4 5 rfl rfl)
theorem dX1_addState_100 : decode cX1_addState 100 = .ok (.checkcast 162, 3) := dk_192 0 162 (dk_at dksX1_addState_4 8 rfl rfl)
theorem dX1_addState_103 : decode cX1_addState 103 = .ok (.iload_n 2, 1) := dk_28 (dk_at dksX1_addState_4 11 rfl rfl)
theorem dX1_addState_104 : decode cX1_addState 104 = .ok (.iload_n 3, 1) := dk_29 (dk_at dksX1_addState_4 12 rfl rfl)
theorem dX1_addState_105 : decode cX1_addState 105 = .ok (.iload 4, 2) := dk_21 4 (dk_at dksX1_addState_4 13 rfl rfl)
theorem dX1_addState_107 : decode cX1_addState 107 = .ok (.invokespecial 203, 3) := dk_183 0 203 (dk_at dksX1_addState_4 15 rfl rfl)
theorem dX1_addState_110 : decode cX1_addState 110 = .ok (.astore 5, 2) := dk_58 5 (dk_at dksX1_addState_4 18 rfl rfl)
theorem dX1_addState_112 : decode cX1_addState 112 = .ok (.aload_n 0, 1) := dk_42 (dk_at dksX1_addState_4 20 rfl rfl)
theorem dX1_addState_113 : decode cX1_addState 113 = .ok (.getfield 37, 3) := dk_180 0 37 (dk_at dksX1_addState_4 21 rfl rfl)
theorem dX1_addState_116 : decode cX1_addState 116 = .ok (.aload 5, 2) := dk_25 5 (dk_at dksX1_addState_5 0 rfl rfl)
theorem dX1_addState_118 : decode cX1_addState 118 = .ok (.invokevirtual 99, 3) := dk_182 0 99 (dk_at dksX1_addState_5 2 rfl rfl)
theorem dX1_addState_121 : decode cX1_addState 121 = .ok (.pop, 1) := dk_87 (dk_at dksX1_addState_5 5 rfl rfl)
theorem dX1_addState_122 : decode cX1_addState 122 = .ok (.aload_n 0, 1) := dk_42 (dk_at dksX1_addState_5 6 rfl rfl)
theorem dX1_addState_123 : decode cX1_addState 123 = .ok (.getfield 37, 3) := dk_180 0 37 (dk_at dksX1_addState_5 7 rfl rfl)
theorem dX1_addState_126 : decode cX1_addState 126 = .ok (.invokevirtual 89, 3) := dk_182 0 89 (dk_at dksX1_addState_5 10 rfl rfl)
theorem dX1_addState_129 : decode cX1_addState 129 = .ok (.iconst 1, 1) := dk_4 (dk_at dksX1_addState_5 13 rfl rfl)
theorem dX1_addState_130 : decode cX1_addState 130 = .ok (.if_icmp .ne 17, 3) := dk_160 0 17 (dk_at dksX1_addState_5 14 rfl rfl)
theorem dX1_addState_133 : decode cX1_addState 133 = .ok (.aload_n 0, 1) := dk_42 (dk_at dksX1_addState_5 17 rfl rfl)
theorem dX1_addState_134 : decode cX1_addState 134 = .ok (.new 206, 3) := dk_187 0 206 (dk_at dksX1_addState_5 18 rfl rfl)
theorem dX1_addState_137 : decode cX1_addState 137 = .ok (.dup, 1) := dk_89 (dk_at dksX1_addState_5 21 rfl rfl)
theorem dX1_addState_138 : decode cX1_addState 138 = .ok (.aload_n 0, 1) := dk_42 (dk_at dksX1_addState_5 22 rfl rfl)
theorem dX1_addState_139 : decode cX1_addState 139 = .ok (.aload 5, 2) := dk_25 5 (dk_at dksX1_addState_6 0 rfl rfl)
theorem dX1_addState_141 : decode cX1_addState 141 = .ok (.invokespecial 208, 3) := dk_183 0 208 (dk_at dksX1_addState_6 2 rfl rfl)
theorem dX1_addState_144 : decode cX1_addState 144 = .ok (.putfield 211, 3) := dk_181 0 211 (dk_at dksX1_addState_6 5 rfl rfl)
theorem dX1_addState_147 : decode cX1_addState 147 = .ok (.aload 5, 2) := dk_25 5 (dk_at dksX1_addState_6 8 rfl rfl)
theorem dX1_addState_149 : decode cX1_addState 149 = .ok (.getfield 215, 3) := dk_180 0 215 (dk_at dksX1_addState_6 10 rfl rfl)
theorem dX1_addState_152 : decode cX1_addState 152 = .ok (.ireturn, 1) := dk_172 (dk_at dksX1_addState_6 13 rfl rfl)
abbrev cX1_addTransition : ByteArray := prog_1_method_23_code
def yX1_addTransition : MethodName := ⟨RX1, "addTransition", "(III)I"⟩
def dkwX1_addTransition_2 : List UInt8 := [167, 0, 4, 3, 184, 0, 93, 42, 187, 0, 224, 89, 25, 4, 25, 5, 29, 183, 0, 226, 182, 0, 229, 172]
abbrev dktX1_addTransition_2 : List UInt8 := dkwX1_addTransition_2 ++ []
def dkwX1_addTransition_1 : List UInt8 := [133, 9, 20, 0, 222, 184, 0, 12, 184, 0, 85, 42, 180, 0, 40, 182, 0, 89, 16, 24, 162, 0, 7, 4]
abbrev dktX1_addTransition_1 : List UInt8 := dkwX1_addTransition_1 ++ dktX1_addTransition_2
def dkwX1_addTransition_0 : List UInt8 := [27, 2, 160, 0, 7, 1, 167, 0, 8, 42, 27, 182, 0, 218, 58, 4, 42, 28, 182, 0, 218, 58, 5, 29]
abbrev dktX1_addTransition_0 : List UInt8 := dkwX1_addTransition_0 ++ dktX1_addTransition_1
theorem dksX1_addTransition_0 : cX1_addTransition.data.toList.drop 0 = dktX1_addTransition_0 := by decide +kernel
theorem dksX1_addTransition_1 : cX1_addTransition.data.toList.drop 24 = dktX1_addTransition_1 := dk_seg dksX1_addTransition_0 24 rfl rfl
theorem dksX1_addTransition_2 : cX1_addTransition.data.toList.drop 48 = dktX1_addTransition_2 := dk_seg dksX1_addTransition_1 24 rfl rfl
theorem dX1_addTransition_0 : decode cX1_addTransition 0 = .ok (.iload_n 1, 1) := dk_27 (dk_at dksX1_addTransition_0 0 rfl rfl)
theorem dX1_addTransition_1 : decode cX1_addTransition 1 = .ok (.iconst (-1), 1) := dk_2 (dk_at dksX1_addTransition_0 1 rfl rfl)
theorem dX1_addTransition_2 : decode cX1_addTransition 2 = .ok (.if_icmp .ne 7, 3) := dk_160 0 7 (dk_at dksX1_addTransition_0 2 rfl rfl)
theorem dX1_addTransition_5 : decode cX1_addTransition 5 = .ok (.aconst_null, 1) := dk_1 (dk_at dksX1_addTransition_0 5 rfl rfl)
theorem dX1_addTransition_6 : decode cX1_addTransition 6 = .ok (.goto 8, 3) := dk_167 0 8 (dk_at dksX1_addTransition_0 6 rfl rfl)
theorem dX1_addTransition_9 : decode cX1_addTransition 9 = .ok (.aload_n 0, 1) := dk_42 (dk_at dksX1_addTransition_0 9 rfl rfl)
theorem dX1_addTransition_10 : decode cX1_addTransition 10 = .ok (.iload_n 1, 1) := dk_27 (dk_at dksX1_addTransition_0 10 rfl rfl)
theorem dX1_addTransition_11 : decode cX1_addTransition 11 = .ok (.invokevirtual 218, 3) := dk_182 0 218 (dk_at dksX1_addTransition_0 11 rfl rfl)
theorem dX1_addTransition_14 : decode cX1_addTransition 14 = .ok (.astore 4, 2) := dk_58 4 (dk_at dksX1_addTransition_0 14 rfl rfl)
theorem dX1_addTransition_16 : decode cX1_addTransition 16 = .ok (.aload_n 0, 1) := dk_42 (dk_at dksX1_addTransition_0 16 rfl rfl)
theorem dX1_addTransition_17 : decode cX1_addTransition 17 = .ok (.iload_n 2, 1) := dk_28 (dk_at dksX1_addTransition_0 17 rfl rfl)
theorem dX1_addTransition_18 : decode cX1_addTransition 18 = .ok (.invokevirtual 218, 3) := dk_182 0 218 (dk_at dksX1_addTransition_0 18 rfl rfl)
theorem dX1_addTransition_21 : decode cX1_addTransition 21 = .ok (.astore 5, 2) := dk_58 5 (dk_at dksX1_addTransition_0 21 rfl rfl)
theorem dX1_addTransition_23 : decode cX1_addTransition 23 = .ok (.iload_n 3, 1) := dk_29 (dk_at dksX1_addTransition_0 23 rfl rfl)
theorem dX1_addTransition_24 : decode cX1_addTransition 24 = .ok (.i2l, 1) := dk_133 (dk_at dksX1_addTransition_1 0 rfl rfl)
theorem dX1_addTransition_25 : decode cX1_addTransition 25 = .ok (.lconst 0, 1) := dk_9 (dk_at dksX1_addTransition_1 1 rfl rfl)
theorem dX1_addTransition_26 : decode cX1_addTransition 26 = .ok (.ldc2_w 222, 3) := dk_20 0 222 (dk_at dksX1_addTransition_1 2 rfl rfl)
theorem dX1_addTransition_29 : decode cX1_addTransition 29 = .ok (.invokestatic 12, 3) := dk_184 0 12 (dk_at dksX1_addTransition_1 5 rfl rfl)
theorem dX1_addTransition_32 : decode cX1_addTransition 32 = .ok (.invokestatic 85, 3) := dk_184 0 85 (dk_at dksX1_addTransition_1 8 rfl rfl)
theorem dX1_addTransition_35 : decode cX1_addTransition 35 = .ok (.aload_n 0, 1) := dk_42 (dk_at dksX1_addTransition_1 11 rfl rfl)
theorem dX1_addTransition_36 : decode cX1_addTransition 36 = .ok (.getfield 40, 3) := dk_180 0 40 (dk_at dksX1_addTransition_1 12 rfl rfl)
theorem dX1_addTransition_39 : decode cX1_addTransition 39 = .ok (.invokevirtual 89, 3) := dk_182 0 89 (dk_at dksX1_addTransition_1 15 rfl rfl)
theorem dX1_addTransition_42 : decode cX1_addTransition 42 = .ok (.bipush 24, 2) := dk_16 24 (dk_at dksX1_addTransition_1 18 rfl rfl)
theorem dX1_addTransition_44 : decode cX1_addTransition 44 = .ok (.if_icmp .ge 7, 3) := dk_162 0 7 (dk_at dksX1_addTransition_1 20 rfl rfl)
theorem dX1_addTransition_47 : decode cX1_addTransition 47 = .ok (.iconst 1, 1) := dk_4 (dk_at dksX1_addTransition_1 23 rfl rfl)
theorem dX1_addTransition_48 : decode cX1_addTransition 48 = .ok (.goto 4, 3) := dk_167 0 4 (dk_at dksX1_addTransition_2 0 rfl rfl)
theorem dX1_addTransition_51 : decode cX1_addTransition 51 = .ok (.iconst 0, 1) := dk_3 (dk_at dksX1_addTransition_2 3 rfl rfl)
theorem dX1_addTransition_52 : decode cX1_addTransition 52 = .ok (.invokestatic 93, 3) := dk_184 0 93 (dk_at dksX1_addTransition_2 4 rfl rfl)
theorem dX1_addTransition_55 : decode cX1_addTransition 55 = .ok (.aload_n 0, 1) := dk_42 (dk_at dksX1_addTransition_2 7 rfl rfl)
theorem dX1_addTransition_56 : decode cX1_addTransition 56 = .ok (.new 224, 3) := dk_187 0 224 (dk_at dksX1_addTransition_2 8 rfl rfl)
theorem dX1_addTransition_59 : decode cX1_addTransition 59 = .ok (.dup, 1) := dk_89 (dk_at dksX1_addTransition_2 11 rfl rfl)
theorem dX1_addTransition_60 : decode cX1_addTransition 60 = .ok (.aload 4, 2) := dk_25 4 (dk_at dksX1_addTransition_2 12 rfl rfl)
theorem dX1_addTransition_62 : decode cX1_addTransition 62 = .ok (.aload 5, 2) := dk_25 5 (dk_at dksX1_addTransition_2 14 rfl rfl)
theorem dX1_addTransition_64 : decode cX1_addTransition 64 = .ok (.iload_n 3, 1) := dk_29 (dk_at dksX1_addTransition_2 16 rfl rfl)
theorem dX1_addTransition_65 : decode cX1_addTransition 65 = .ok (.invokespecial 226, 3) := dk_183 0 226 (dk_at dksX1_addTransition_2 17 rfl rfl)
theorem dX1_addTransition_68 : decode cX1_addTransition 68 = .ok (.invokevirtual 229, 3) := dk_182 0 229 (dk_at dksX1_addTransition_2 20 rfl rfl)
theorem dX1_addTransition_71 : decode cX1_addTransition 71 = .ok (.ireturn, 1) := dk_172 (dk_at dksX1_addTransition_2 23 rfl rfl)
abbrev cX1_stateAt : ByteArray := prog_1_method_21_code
def yX1_stateAt : MethodName := ⟨RX1, "stateAt", "(I)LAnimationController$State;"⟩
def dkwX1_stateAt_0 : List UInt8 := [27, 42, 180, 0, 37, 182, 0, 89, 184, 0, 103, 42, 180, 0, 37, 27, 182, 0, 107, 192, 0, 201, 176]
abbrev dktX1_stateAt_0 : List UInt8 := dkwX1_stateAt_0 ++ []
theorem dksX1_stateAt_0 : cX1_stateAt.data.toList.drop 0 = dktX1_stateAt_0 := by decide +kernel
theorem dX1_stateAt_0 : decode cX1_stateAt 0 = .ok (.iload_n 1, 1) := dk_27 (dk_at dksX1_stateAt_0 0 rfl rfl)
theorem dX1_stateAt_1 : decode cX1_stateAt 1 = .ok (.aload_n 0, 1) := dk_42 (dk_at dksX1_stateAt_0 1 rfl rfl)
theorem dX1_stateAt_2 : decode cX1_stateAt 2 = .ok (.getfield 37, 3) := dk_180 0 37 (dk_at dksX1_stateAt_0 2 rfl rfl)
theorem dX1_stateAt_5 : decode cX1_stateAt 5 = .ok (.invokevirtual 89, 3) := dk_182 0 89 (dk_at dksX1_stateAt_0 5 rfl rfl)
theorem dX1_stateAt_8 : decode cX1_stateAt 8 = .ok (.invokestatic 103, 3) := dk_184 0 103 (dk_at dksX1_stateAt_0 8 rfl rfl)
theorem dX1_stateAt_11 : decode cX1_stateAt 11 = .ok (.aload_n 0, 1) := dk_42 (dk_at dksX1_stateAt_0 11 rfl rfl)
theorem dX1_stateAt_12 : decode cX1_stateAt 12 = .ok (.getfield 37, 3) := dk_180 0 37 (dk_at dksX1_stateAt_0 12 rfl rfl)
theorem dX1_stateAt_15 : decode cX1_stateAt 15 = .ok (.iload_n 1, 1) := dk_27 (dk_at dksX1_stateAt_0 15 rfl rfl)
theorem dX1_stateAt_16 : decode cX1_stateAt 16 = .ok (.invokevirtual 107, 3) := dk_182 0 107 (dk_at dksX1_stateAt_0 16 rfl rfl)
theorem dX1_stateAt_19 : decode cX1_stateAt 19 = .ok (.checkcast 201, 3) := dk_192 0 201 (dk_at dksX1_stateAt_0 19 rfl rfl)
theorem dX1_stateAt_22 : decode cX1_stateAt 22 = .ok (.areturn, 1) := dk_176 (dk_at dksX1_stateAt_0 22 rfl rfl)
abbrev cX1_append : ByteArray := prog_1_method_22_code
def yX1_append : MethodName := ⟨RX1, "append", "(LAnimationController$Transition;)I"⟩
def dkwX1_append_0 : List UInt8 := [42, 180, 0, 40, 43, 182, 0, 99, 87, 42, 180, 0, 40, 182, 0, 89, 4, 100, 172]
abbrev dktX1_append_0 : List UInt8 := dkwX1_append_0 ++ []
theorem dksX1_append_0 : cX1_append.data.toList.drop 0 = dktX1_append_0 := by decide +kernel
theorem dX1_append_0 : decode cX1_append 0 = .ok (.aload_n 0, 1) := dk_42 (dk_at dksX1_append_0 0 rfl rfl)
theorem dX1_append_1 : decode cX1_append 1 = .ok (.getfield 40, 3) := dk_180 0 40 (dk_at dksX1_append_0 1 rfl rfl)
theorem dX1_append_4 : decode cX1_append 4 = .ok (.aload_n 1, 1) := dk_43 (dk_at dksX1_append_0 4 rfl rfl)
theorem dX1_append_5 : decode cX1_append 5 = .ok (.invokevirtual 99, 3) := dk_182 0 99 (dk_at dksX1_append_0 5 rfl rfl)
theorem dX1_append_8 : decode cX1_append 8 = .ok (.pop, 1) := dk_87 (dk_at dksX1_append_0 8 rfl rfl)
theorem dX1_append_9 : decode cX1_append 9 = .ok (.aload_n 0, 1) := dk_42 (dk_at dksX1_append_0 9 rfl rfl)
theorem dX1_append_10 : decode cX1_append 10 = .ok (.getfield 40, 3) := dk_180 0 40 (dk_at dksX1_append_0 10 rfl rfl)
theorem dX1_append_13 : decode cX1_append 13 = .ok (.invokevirtual 89, 3) := dk_182 0 89 (dk_at dksX1_append_0 13 rfl rfl)
theorem dX1_append_16 : decode cX1_append 16 = .ok (.iconst 1, 1) := dk_4 (dk_at dksX1_append_0 16 rfl rfl)
theorem dX1_append_17 : decode cX1_append 17 = .ok (.isub, 1) := dk_100 (dk_at dksX1_append_0 17 rfl rfl)
theorem dX1_append_18 : decode cX1_append 18 = .ok (.ireturn, 1) := dk_172 (dk_at dksX1_append_0 18 rfl rfl)
abbrev cX1_setTiming : ByteArray := prog_1_method_25_code
def yX1_setTiming : MethodName := ⟨RX1, "setTiming", "(III)I"⟩
def dkwX1_setTiming_3 : List UInt8 := [181, 0, 245, 25, 4, 29, 181, 0, 248, 21, 5, 172]
abbrev dktX1_setTiming_3 : List UInt8 := dkwX1_setTiming_3 ++ []
def dkwX1_setTiming_2 : List UInt8 := [180, 0, 241, 198, 0, 7, 4, 167, 0, 4, 3, 184, 0, 93, 25, 4, 180, 0, 245, 54, 5, 25, 4, 28]
abbrev dktX1_setTiming_2 : List UInt8 := dkwX1_setTiming_2 ++ dktX1_setTiming_3
def dkwX1_setTiming_1 : List UInt8 := [20, 0, 135, 184, 0, 12, 153, 0, 7, 4, 167, 0, 4, 3, 184, 0, 85, 28, 2, 159, 0, 11, 25, 4]
abbrev dktX1_setTiming_1 : List UInt8 := dkwX1_setTiming_1 ++ dktX1_setTiming_2
def dkwX1_setTiming_0 : List UInt8 := [42, 27, 182, 0, 233, 58, 4, 28, 133, 20, 0, 237, 20, 0, 239, 184, 0, 12, 153, 0, 19, 29, 133, 9]
abbrev dktX1_setTiming_0 : List UInt8 := dkwX1_setTiming_0 ++ dktX1_setTiming_1
theorem dksX1_setTiming_0 : cX1_setTiming.data.toList.drop 0 = dktX1_setTiming_0 := by decide +kernel
theorem dksX1_setTiming_1 : cX1_setTiming.data.toList.drop 24 = dktX1_setTiming_1 := dk_seg dksX1_setTiming_0 24 rfl rfl
theorem dksX1_setTiming_2 : cX1_setTiming.data.toList.drop 48 = dktX1_setTiming_2 := dk_seg dksX1_setTiming_1 24 rfl rfl
theorem dksX1_setTiming_3 : cX1_setTiming.data.toList.drop 72 = dktX1_setTiming_3 := dk_seg dksX1_setTiming_2 24 rfl rfl
theorem dX1_setTiming_0 : decode cX1_setTiming 0 = .ok (.aload_n 0, 1) := dk_42 (dk_at dksX1_setTiming_0 0 rfl rfl)
theorem dX1_setTiming_1 : decode cX1_setTiming 1 = .ok (.iload_n 1, 1) := dk_27 (dk_at dksX1_setTiming_0 1 rfl rfl)
theorem dX1_setTiming_2 : decode cX1_setTiming 2 = .ok (.invokevirtual 233, 3) := dk_182 0 233 (dk_at dksX1_setTiming_0 2 rfl rfl)
theorem dX1_setTiming_5 : decode cX1_setTiming 5 = .ok (.astore 4, 2) := dk_58 4 (dk_at dksX1_setTiming_0 5 rfl rfl)
theorem dX1_setTiming_7 : decode cX1_setTiming 7 = .ok (.iload_n 2, 1) := dk_28 (dk_at dksX1_setTiming_0 7 rfl rfl)
theorem dX1_setTiming_8 : decode cX1_setTiming 8 = .ok (.i2l, 1) := dk_133 (dk_at dksX1_setTiming_0 8 rfl rfl)
theorem dX1_setTiming_9 : decode cX1_setTiming 9 = .ok (.ldc2_w 237, 3) := dk_20 0 237 (dk_at dksX1_setTiming_0 9 rfl rfl)
theorem dX1_setTiming_12 : decode cX1_setTiming 12 = .ok (.ldc2_w 239, 3) := dk_20 0 239 (dk_at dksX1_setTiming_0 12 rfl rfl)
theorem dX1_setTiming_15 : decode cX1_setTiming 15 = .ok (.invokestatic 12, 3) := dk_184 0 12 (dk_at dksX1_setTiming_0 15 rfl rfl)
theorem dX1_setTiming_18 : decode cX1_setTiming 18 = .ok (.ifCond .eq 19, 3) := dk_153 0 19 (dk_at dksX1_setTiming_0 18 rfl rfl)
theorem dX1_setTiming_21 : decode cX1_setTiming 21 = .ok (.iload_n 3, 1) := dk_29 (dk_at dksX1_setTiming_0 21 rfl rfl)
theorem dX1_setTiming_22 : decode cX1_setTiming 22 = .ok (.i2l, 1) := dk_133 (dk_at dksX1_setTiming_0 22 rfl rfl)
theorem dX1_setTiming_23 : decode cX1_setTiming 23 = .ok (.lconst 0, 1) := dk_9 (dk_at dksX1_setTiming_0 23 rfl rfl)
theorem dX1_setTiming_24 : decode cX1_setTiming 24 = .ok (.ldc2_w 135, 3) := dk_20 0 135 (dk_at dksX1_setTiming_1 0 rfl rfl)
theorem dX1_setTiming_27 : decode cX1_setTiming 27 = .ok (.invokestatic 12, 3) := dk_184 0 12 (dk_at dksX1_setTiming_1 3 rfl rfl)
theorem dX1_setTiming_30 : decode cX1_setTiming 30 = .ok (.ifCond .eq 7, 3) := dk_153 0 7 (dk_at dksX1_setTiming_1 6 rfl rfl)
theorem dX1_setTiming_33 : decode cX1_setTiming 33 = .ok (.iconst 1, 1) := dk_4 (dk_at dksX1_setTiming_1 9 rfl rfl)
theorem dX1_setTiming_34 : decode cX1_setTiming 34 = .ok (.goto 4, 3) := dk_167 0 4 (dk_at dksX1_setTiming_1 10 rfl rfl)
theorem dX1_setTiming_37 : decode cX1_setTiming 37 = .ok (.iconst 0, 1) := dk_3 (dk_at dksX1_setTiming_1 13 rfl rfl)
theorem dX1_setTiming_38 : decode cX1_setTiming 38 = .ok (.invokestatic 85, 3) := dk_184 0 85 (dk_at dksX1_setTiming_1 14 rfl rfl)
theorem dX1_setTiming_41 : decode cX1_setTiming 41 = .ok (.iload_n 2, 1) := dk_28 (dk_at dksX1_setTiming_1 17 rfl rfl)
theorem dX1_setTiming_42 : decode cX1_setTiming 42 = .ok (.iconst (-1), 1) := dk_2 (dk_at dksX1_setTiming_1 18 rfl rfl)
theorem dX1_setTiming_43 : decode cX1_setTiming 43 = .ok (.if_icmp .eq 11, 3) := dk_159 0 11 (dk_at dksX1_setTiming_1 19 rfl rfl)
theorem dX1_setTiming_46 : decode cX1_setTiming 46 = .ok (.aload 4, 2) := dk_25 4 (dk_at dksX1_setTiming_1 22 rfl rfl)
theorem dX1_setTiming_48 : decode cX1_setTiming 48 = .ok (.getfield 241, 3) := dk_180 0 241 (dk_at dksX1_setTiming_2 0 rfl rfl)
theorem dX1_setTiming_51 : decode cX1_setTiming 51 = .ok (.ifnull 7, 3) := dk_198 0 7 (dk_at dksX1_setTiming_2 3 rfl rfl)
theorem dX1_setTiming_54 : decode cX1_setTiming 54 = .ok (.iconst 1, 1) := dk_4 (dk_at dksX1_setTiming_2 6 rfl rfl)
theorem dX1_setTiming_55 : decode cX1_setTiming 55 = .ok (.goto 4, 3) := dk_167 0 4 (dk_at dksX1_setTiming_2 7 rfl rfl)
theorem dX1_setTiming_58 : decode cX1_setTiming 58 = .ok (.iconst 0, 1) := dk_3 (dk_at dksX1_setTiming_2 10 rfl rfl)
theorem dX1_setTiming_59 : decode cX1_setTiming 59 = .ok (.invokestatic 93, 3) := dk_184 0 93 (dk_at dksX1_setTiming_2 11 rfl rfl)
theorem dX1_setTiming_62 : decode cX1_setTiming 62 = .ok (.aload 4, 2) := dk_25 4 (dk_at dksX1_setTiming_2 14 rfl rfl)
theorem dX1_setTiming_64 : decode cX1_setTiming 64 = .ok (.getfield 245, 3) := dk_180 0 245 (dk_at dksX1_setTiming_2 16 rfl rfl)
theorem dX1_setTiming_67 : decode cX1_setTiming 67 = .ok (.istore 5, 2) := dk_54 5 (dk_at dksX1_setTiming_2 19 rfl rfl)
theorem dX1_setTiming_69 : decode cX1_setTiming 69 = .ok (.aload 4, 2) := dk_25 4 (dk_at dksX1_setTiming_2 21 rfl rfl)
theorem dX1_setTiming_71 : decode cX1_setTiming 71 = .ok (.iload_n 2, 1) := dk_28 (dk_at dksX1_setTiming_2 23 rfl rfl)
theorem dX1_setTiming_72 : decode cX1_setTiming 72 = .ok (.putfield 245, 3) := dk_181 0 245 (dk_at dksX1_setTiming_3 0 rfl rfl)
theorem dX1_setTiming_75 : decode cX1_setTiming 75 = .ok (.aload 4, 2) := dk_25 4 (dk_at dksX1_setTiming_3 3 rfl rfl)
theorem dX1_setTiming_77 : decode cX1_setTiming 77 = .ok (.iload_n 3, 1) := dk_29 (dk_at dksX1_setTiming_3 5 rfl rfl)
theorem dX1_setTiming_78 : decode cX1_setTiming 78 = .ok (.putfield 248, 3) := dk_181 0 248 (dk_at dksX1_setTiming_3 6 rfl rfl)
theorem dX1_setTiming_81 : decode cX1_setTiming 81 = .ok (.iload 5, 2) := dk_21 5 (dk_at dksX1_setTiming_3 9 rfl rfl)
theorem dX1_setTiming_83 : decode cX1_setTiming 83 = .ok (.ireturn, 1) := dk_172 (dk_at dksX1_setTiming_3 11 rfl rfl)
abbrev cX1_transitionAt : ByteArray := prog_1_method_24_code
def yX1_transitionAt : MethodName := ⟨RX1, "transitionAt", "(I)LAnimationController$Transition;"⟩
def dkwX1_transitionAt_0 : List UInt8 := [27, 42, 180, 0, 40, 182, 0, 89, 184, 0, 103, 42, 180, 0, 40, 27, 182, 0, 107, 192, 0, 224, 176]
abbrev dktX1_transitionAt_0 : List UInt8 := dkwX1_transitionAt_0 ++ []
theorem dksX1_transitionAt_0 : cX1_transitionAt.data.toList.drop 0 = dktX1_transitionAt_0 := by decide +kernel
theorem dX1_transitionAt_0 : decode cX1_transitionAt 0 = .ok (.iload_n 1, 1) := dk_27 (dk_at dksX1_transitionAt_0 0 rfl rfl)
theorem dX1_transitionAt_1 : decode cX1_transitionAt 1 = .ok (.aload_n 0, 1) := dk_42 (dk_at dksX1_transitionAt_0 1 rfl rfl)
theorem dX1_transitionAt_2 : decode cX1_transitionAt 2 = .ok (.getfield 40, 3) := dk_180 0 40 (dk_at dksX1_transitionAt_0 2 rfl rfl)
theorem dX1_transitionAt_5 : decode cX1_transitionAt 5 = .ok (.invokevirtual 89, 3) := dk_182 0 89 (dk_at dksX1_transitionAt_0 5 rfl rfl)
theorem dX1_transitionAt_8 : decode cX1_transitionAt 8 = .ok (.invokestatic 103, 3) := dk_184 0 103 (dk_at dksX1_transitionAt_0 8 rfl rfl)
theorem dX1_transitionAt_11 : decode cX1_transitionAt 11 = .ok (.aload_n 0, 1) := dk_42 (dk_at dksX1_transitionAt_0 11 rfl rfl)
theorem dX1_transitionAt_12 : decode cX1_transitionAt 12 = .ok (.getfield 40, 3) := dk_180 0 40 (dk_at dksX1_transitionAt_0 12 rfl rfl)
theorem dX1_transitionAt_15 : decode cX1_transitionAt 15 = .ok (.iload_n 1, 1) := dk_27 (dk_at dksX1_transitionAt_0 15 rfl rfl)
theorem dX1_transitionAt_16 : decode cX1_transitionAt 16 = .ok (.invokevirtual 107, 3) := dk_182 0 107 (dk_at dksX1_transitionAt_0 16 rfl rfl)
theorem dX1_transitionAt_19 : decode cX1_transitionAt 19 = .ok (.checkcast 224, 3) := dk_192 0 224 (dk_at dksX1_transitionAt_0 19 rfl rfl)
theorem dX1_transitionAt_22 : decode cX1_transitionAt 22 = .ok (.areturn, 1) := dk_176 (dk_at dksX1_transitionAt_0 22 rfl rfl)
abbrev cX1_setInterruption : ByteArray := prog_1_method_26_code
def yX1_setInterruption : MethodName := ⟨RX1, "setInterruption", "(IIZ)I"⟩
def dkwX1_setInterruption_1 : List UInt8 := [54, 5, 25, 4, 28, 181, 0, 253, 25, 4, 29, 181, 1, 0, 21, 5, 172]
abbrev dktX1_setInterruption_1 : List UInt8 := dkwX1_setInterruption_1 ++ []
def dkwX1_setInterruption_0 : List UInt8 := [42, 27, 182, 0, 233, 58, 4, 28, 133, 9, 20, 0, 251, 184, 0, 12, 184, 0, 85, 25, 4, 180, 0, 253]
abbrev dktX1_setInterruption_0 : List UInt8 := dkwX1_setInterruption_0 ++ dktX1_setInterruption_1
theorem dksX1_setInterruption_0 : cX1_setInterruption.data.toList.drop 0 = dktX1_setInterruption_0 := by decide +kernel
theorem dksX1_setInterruption_1 : cX1_setInterruption.data.toList.drop 24 = dktX1_setInterruption_1 := dk_seg dksX1_setInterruption_0 24 rfl rfl
theorem dX1_setInterruption_0 : decode cX1_setInterruption 0 = .ok (.aload_n 0, 1) := dk_42 (dk_at dksX1_setInterruption_0 0 rfl rfl)
theorem dX1_setInterruption_1 : decode cX1_setInterruption 1 = .ok (.iload_n 1, 1) := dk_27 (dk_at dksX1_setInterruption_0 1 rfl rfl)
theorem dX1_setInterruption_2 : decode cX1_setInterruption 2 = .ok (.invokevirtual 233, 3) := dk_182 0 233 (dk_at dksX1_setInterruption_0 2 rfl rfl)
theorem dX1_setInterruption_5 : decode cX1_setInterruption 5 = .ok (.astore 4, 2) := dk_58 4 (dk_at dksX1_setInterruption_0 5 rfl rfl)
theorem dX1_setInterruption_7 : decode cX1_setInterruption 7 = .ok (.iload_n 2, 1) := dk_28 (dk_at dksX1_setInterruption_0 7 rfl rfl)
theorem dX1_setInterruption_8 : decode cX1_setInterruption 8 = .ok (.i2l, 1) := dk_133 (dk_at dksX1_setInterruption_0 8 rfl rfl)
theorem dX1_setInterruption_9 : decode cX1_setInterruption 9 = .ok (.lconst 0, 1) := dk_9 (dk_at dksX1_setInterruption_0 9 rfl rfl)
theorem dX1_setInterruption_10 : decode cX1_setInterruption 10 = .ok (.ldc2_w 251, 3) := dk_20 0 251 (dk_at dksX1_setInterruption_0 10 rfl rfl)
theorem dX1_setInterruption_13 : decode cX1_setInterruption 13 = .ok (.invokestatic 12, 3) := dk_184 0 12 (dk_at dksX1_setInterruption_0 13 rfl rfl)
theorem dX1_setInterruption_16 : decode cX1_setInterruption 16 = .ok (.invokestatic 85, 3) := dk_184 0 85 (dk_at dksX1_setInterruption_0 16 rfl rfl)
theorem dX1_setInterruption_19 : decode cX1_setInterruption 19 = .ok (.aload 4, 2) := dk_25 4 (dk_at dksX1_setInterruption_0 19 rfl rfl)
theorem dX1_setInterruption_21 : decode cX1_setInterruption 21 = .ok (.getfield 253, 3) := dk_180 0 253 (dk_at dksX1_setInterruption_0 21 rfl rfl)
theorem dX1_setInterruption_24 : decode cX1_setInterruption 24 = .ok (.istore 5, 2) := dk_54 5 (dk_at dksX1_setInterruption_1 0 rfl rfl)
theorem dX1_setInterruption_26 : decode cX1_setInterruption 26 = .ok (.aload 4, 2) := dk_25 4 (dk_at dksX1_setInterruption_1 2 rfl rfl)
theorem dX1_setInterruption_28 : decode cX1_setInterruption 28 = .ok (.iload_n 2, 1) := dk_28 (dk_at dksX1_setInterruption_1 4 rfl rfl)
theorem dX1_setInterruption_29 : decode cX1_setInterruption 29 = .ok (.putfield 253, 3) := dk_181 0 253 (dk_at dksX1_setInterruption_1 5 rfl rfl)
theorem dX1_setInterruption_32 : decode cX1_setInterruption 32 = .ok (.aload 4, 2) := dk_25 4 (dk_at dksX1_setInterruption_1 8 rfl rfl)
theorem dX1_setInterruption_34 : decode cX1_setInterruption 34 = .ok (.iload_n 3, 1) := dk_29 (dk_at dksX1_setInterruption_1 10 rfl rfl)
theorem dX1_setInterruption_35 : decode cX1_setInterruption 35 = .ok (.putfield 256, 3) := dk_181 1 0 (dk_at dksX1_setInterruption_1 11 rfl rfl)
theorem dX1_setInterruption_38 : decode cX1_setInterruption 38 = .ok (.iload 5, 2) := dk_21 5 (dk_at dksX1_setInterruption_1 14 rfl rfl)
theorem dX1_setInterruption_40 : decode cX1_setInterruption 40 = .ok (.ireturn, 1) := dk_172 (dk_at dksX1_setInterruption_1 16 rfl rfl)
abbrev cX1_addCondition : ByteArray := prog_1_method_27_code
def yX1_addCondition : MethodName := ⟨RX1, "addCondition", "(IIII)I"⟩
def dkwX1_addCondition_5 : List UInt8 := [25, 5, 180, 1, 4, 172]
abbrev dktX1_addCondition_5 : List UInt8 := dkwX1_addCondition_5 ++ []
def dkwX1_addCondition_4 : List UInt8 := [3, 184, 0, 93, 25, 5, 187, 1, 5, 89, 25, 6, 29, 21, 4, 184, 1, 7, 183, 1, 11, 182, 1, 14]
abbrev dktX1_addCondition_4 : List UInt8 := dkwX1_addCondition_4 ++ dktX1_addCondition_5
def dkwX1_addCondition_3 : List UInt8 := [160, 0, 7, 4, 167, 0, 4, 3, 184, 0, 85, 25, 5, 180, 1, 4, 6, 162, 0, 7, 4, 167, 0, 4]
abbrev dktX1_addCondition_3 : List UInt8 := dkwX1_addCondition_3 ++ dktX1_addCondition_4
def dkwX1_addCondition_2 : List UInt8 := [25, 6, 21, 4, 182, 0, 115, 153, 0, 22, 25, 6, 180, 0, 154, 5, 160, 0, 9, 21, 4, 4]
abbrev dktX1_addCondition_2 : List UInt8 := dkwX1_addCondition_2 ++ dktX1_addCondition_3
def dkwX1_addCondition_1 : List UInt8 := [9, 20, 0, 199, 184, 0, 12, 167, 0, 13, 29, 5, 160, 0, 7, 4, 167, 0, 4, 3, 184, 0, 85]
abbrev dktX1_addCondition_1 : List UInt8 := dkwX1_addCondition_1 ++ dktX1_addCondition_2
def dkwX1_addCondition_0 : List UInt8 := [42, 27, 182, 0, 233, 58, 5, 42, 28, 182, 0, 111, 58, 6, 25, 6, 180, 0, 154, 154, 0, 15, 29, 133]
abbrev dktX1_addCondition_0 : List UInt8 := dkwX1_addCondition_0 ++ dktX1_addCondition_1
theorem dksX1_addCondition_0 : cX1_addCondition.data.toList.drop 0 = dktX1_addCondition_0 := by decide +kernel
theorem dksX1_addCondition_1 : cX1_addCondition.data.toList.drop 24 = dktX1_addCondition_1 := dk_seg dksX1_addCondition_0 24 rfl rfl
theorem dksX1_addCondition_2 : cX1_addCondition.data.toList.drop 47 = dktX1_addCondition_2 := dk_seg dksX1_addCondition_1 23 rfl rfl
theorem dksX1_addCondition_3 : cX1_addCondition.data.toList.drop 69 = dktX1_addCondition_3 := dk_seg dksX1_addCondition_2 22 rfl rfl
theorem dksX1_addCondition_4 : cX1_addCondition.data.toList.drop 93 = dktX1_addCondition_4 := dk_seg dksX1_addCondition_3 24 rfl rfl
theorem dksX1_addCondition_5 : cX1_addCondition.data.toList.drop 117 = dktX1_addCondition_5 := dk_seg dksX1_addCondition_4 24 rfl rfl
theorem dX1_addCondition_0 : decode cX1_addCondition 0 = .ok (.aload_n 0, 1) := dk_42 (dk_at dksX1_addCondition_0 0 rfl rfl)
theorem dX1_addCondition_1 : decode cX1_addCondition 1 = .ok (.iload_n 1, 1) := dk_27 (dk_at dksX1_addCondition_0 1 rfl rfl)
theorem dX1_addCondition_2 : decode cX1_addCondition 2 = .ok (.invokevirtual 233, 3) := dk_182 0 233 (dk_at dksX1_addCondition_0 2 rfl rfl)
theorem dX1_addCondition_5 : decode cX1_addCondition 5 = .ok (.astore 5, 2) := dk_58 5 (dk_at dksX1_addCondition_0 5 rfl rfl)
theorem dX1_addCondition_7 : decode cX1_addCondition 7 = .ok (.aload_n 0, 1) := dk_42 (dk_at dksX1_addCondition_0 7 rfl rfl)
theorem dX1_addCondition_8 : decode cX1_addCondition 8 = .ok (.iload_n 2, 1) := dk_28 (dk_at dksX1_addCondition_0 8 rfl rfl)
theorem dX1_addCondition_9 : decode cX1_addCondition 9 = .ok (.invokevirtual 111, 3) := dk_182 0 111 (dk_at dksX1_addCondition_0 9 rfl rfl)
theorem dX1_addCondition_12 : decode cX1_addCondition 12 = .ok (.astore 6, 2) := dk_58 6 (dk_at dksX1_addCondition_0 12 rfl rfl)
theorem dX1_addCondition_14 : decode cX1_addCondition 14 = .ok (.aload 6, 2) := dk_25 6 (dk_at dksX1_addCondition_0 14 rfl rfl)
theorem dX1_addCondition_16 : decode cX1_addCondition 16 = .ok (.getfield 154, 3) := dk_180 0 154 (dk_at dksX1_addCondition_0 16 rfl rfl)
theorem dX1_addCondition_19 : decode cX1_addCondition 19 = .ok (.ifCond .ne 15, 3) := dk_154 0 15 (dk_at dksX1_addCondition_0 19 rfl rfl)
theorem dX1_addCondition_22 : decode cX1_addCondition 22 = .ok (.iload_n 3, 1) := dk_29 (dk_at dksX1_addCondition_0 22 rfl rfl)
theorem dX1_addCondition_23 : decode cX1_addCondition 23 = .ok (.i2l, 1) := dk_133 (dk_at dksX1_addCondition_0 23 rfl rfl)
theorem dX1_addCondition_24 : decode cX1_addCondition 24 = .ok (.lconst 0, 1) := dk_9 (dk_at dksX1_addCondition_1 0 rfl rfl)
theorem dX1_addCondition_25 : decode cX1_addCondition 25 = .ok (.ldc2_w 199, 3) := dk_20 0 199 (dk_at dksX1_addCondition_1 1 rfl rfl)
theorem dX1_addCondition_28 : decode cX1_addCondition 28 = .ok (.invokestatic 12, 3) := dk_184 0 12 (dk_at dksX1_addCondition_1 4 rfl rfl)
theorem dX1_addCondition_31 : decode cX1_addCondition 31 = .ok (.goto 13, 3) := dk_167 0 13 (dk_at dksX1_addCondition_1 7 rfl rfl)
theorem dX1_addCondition_34 : decode cX1_addCondition 34 = .ok (.iload_n 3, 1) := dk_29 (dk_at dksX1_addCondition_1 10 rfl rfl)
theorem dX1_addCondition_35 : decode cX1_addCondition 35 = .ok (.iconst 2, 1) := dk_5 (dk_at dksX1_addCondition_1 11 rfl rfl)
theorem dX1_addCondition_36 : decode cX1_addCondition 36 = .ok (.if_icmp .ne 7, 3) := dk_160 0 7 (dk_at dksX1_addCondition_1 12 rfl rfl)
theorem dX1_addCondition_39 : decode cX1_addCondition 39 = .ok (.iconst 1, 1) := dk_4 (dk_at dksX1_addCondition_1 15 rfl rfl)
theorem dX1_addCondition_40 : decode cX1_addCondition 40 = .ok (.goto 4, 3) := dk_167 0 4 (dk_at dksX1_addCondition_1 16 rfl rfl)
theorem dX1_addCondition_43 : decode cX1_addCondition 43 = .ok (.iconst 0, 1) := dk_3 (dk_at dksX1_addCondition_1 19 rfl rfl)
theorem dX1_addCondition_44 : decode cX1_addCondition 44 = .ok (.invokestatic 85, 3) := dk_184 0 85 (dk_at dksX1_addCondition_1 20 rfl rfl)
theorem dX1_addCondition_47 : decode cX1_addCondition 47 = .ok (.aload 6, 2) := dk_25 6 (dk_at dksX1_addCondition_2 0 rfl rfl)
theorem dX1_addCondition_49 : decode cX1_addCondition 49 = .ok (.iload 4, 2) := dk_21 4 (dk_at dksX1_addCondition_2 2 rfl rfl)
theorem dX1_addCondition_51 : decode cX1_addCondition 51 = .ok (.invokevirtual 115, 3) := dk_182 0 115 (dk_at dksX1_addCondition_2 4 rfl rfl)
theorem dX1_addCondition_54 : decode cX1_addCondition 54 = .ok (.ifCond .eq 22, 3) := dk_153 0 22 (dk_at dksX1_addCondition_2 7 rfl rfl)
theorem dX1_addCondition_57 : decode cX1_addCondition 57 = .ok (.aload 6, 2) := dk_25 6 (dk_at dksX1_addCondition_2 10 rfl rfl)
theorem dX1_addCondition_59 : decode cX1_addCondition 59 = .ok (.getfield 154, 3) := dk_180 0 154 (dk_at dksX1_addCondition_2 12 rfl rfl)
theorem dX1_addCondition_62 : decode cX1_addCondition 62 = .ok (.iconst 2, 1) := dk_5 (dk_at dksX1_addCondition_2 15 rfl rfl)
theorem dX1_addCondition_63 : decode cX1_addCondition 63 = .ok (.if_icmp .ne 9, 3) := dk_160 0 9 (dk_at dksX1_addCondition_2 16 rfl rfl)
theorem dX1_addCondition_66 : decode cX1_addCondition 66 = .ok (.iload 4, 2) := dk_21 4 (dk_at dksX1_addCondition_2 19 rfl rfl)
theorem dX1_addCondition_68 : decode cX1_addCondition 68 = .ok (.iconst 1, 1) := dk_4 (dk_at dksX1_addCondition_2 21 rfl rfl)
theorem dX1_addCondition_69 : decode cX1_addCondition 69 = .ok (.if_icmp .ne 7, 3) := dk_160 0 7 (dk_at dksX1_addCondition_3 0 rfl rfl)
theorem dX1_addCondition_72 : decode cX1_addCondition 72 = .ok (.iconst 1, 1) := dk_4 (dk_at dksX1_addCondition_3 3 rfl rfl)
theorem dX1_addCondition_73 : decode cX1_addCondition 73 = .ok (.goto 4, 3) := dk_167 0 4 (dk_at dksX1_addCondition_3 4 rfl rfl)
theorem dX1_addCondition_76 : decode cX1_addCondition 76 = .ok (.iconst 0, 1) := dk_3 (dk_at dksX1_addCondition_3 7 rfl rfl)
theorem dX1_addCondition_77 : decode cX1_addCondition 77 = .ok (.invokestatic 85, 3) := dk_184 0 85 (dk_at dksX1_addCondition_3 8 rfl rfl)
theorem dX1_addCondition_80 : decode cX1_addCondition 80 = .ok (.aload 5, 2) := dk_25 5 (dk_at dksX1_addCondition_3 11 rfl rfl)
theorem dX1_addCondition_82 : decode cX1_addCondition 82 = .ok (.getfield 260, 3) := dk_180 1 4 (dk_at dksX1_addCondition_3 13 rfl rfl)
theorem dX1_addCondition_85 : decode cX1_addCondition 85 = .ok (.iconst 3, 1) := dk_6 (dk_at dksX1_addCondition_3 16 rfl rfl)
theorem dX1_addCondition_86 : decode cX1_addCondition 86 = .ok (.if_icmp .ge 7, 3) := dk_162 0 7 (dk_at dksX1_addCondition_3 17 rfl rfl)
theorem dX1_addCondition_89 : decode cX1_addCondition 89 = .ok (.iconst 1, 1) := dk_4 (dk_at dksX1_addCondition_3 20 rfl rfl)
theorem dX1_addCondition_90 : decode cX1_addCondition 90 = .ok (.goto 4, 3) := dk_167 0 4 (dk_at dksX1_addCondition_3 21 rfl rfl)
theorem dX1_addCondition_93 : decode cX1_addCondition 93 = .ok (.iconst 0, 1) := dk_3 (dk_at dksX1_addCondition_4 0 rfl rfl)
theorem dX1_addCondition_94 : decode cX1_addCondition 94 = .ok (.invokestatic 93, 3) := dk_184 0 93 (dk_at dksX1_addCondition_4 1 rfl rfl)
theorem dX1_addCondition_97 : decode cX1_addCondition 97 = .ok (.aload 5, 2) := dk_25 5 (dk_at dksX1_addCondition_4 4 rfl rfl)
theorem dX1_addCondition_99 : decode cX1_addCondition 99 = .ok (.new 261, 3) := dk_187 1 5 (dk_at dksX1_addCondition_4 6 rfl rfl)
theorem dX1_addCondition_102 : decode cX1_addCondition 102 = .ok (.dup, 1) := dk_89 (dk_at dksX1_addCondition_4 9 rfl rfl)
theorem dX1_addCondition_103 : decode cX1_addCondition 103 = .ok (.aload 6, 2) := dk_25 6 (dk_at dksX1_addCondition_4 10 rfl rfl)
theorem dX1_addCondition_105 : decode cX1_addCondition 105 = .ok (.iload_n 3, 1) := dk_29 (dk_at dksX1_addCondition_4 12 rfl rfl)
theorem dX1_addCondition_106 : decode cX1_addCondition 106 = .ok (.iload 4, 2) := dk_21 4 (dk_at dksX1_addCondition_4 13 rfl rfl)
theorem dX1_addCondition_108 : decode cX1_addCondition 108 = .ok (.invokestatic 263, 3) := dk_184 1 7 (dk_at dksX1_addCondition_4 15 rfl rfl)
theorem dX1_addCondition_111 : decode cX1_addCondition 111 = .ok (.invokespecial 267, 3) := dk_183 1 11 (dk_at dksX1_addCondition_4 18 rfl rfl)
theorem dX1_addCondition_114 : decode cX1_addCondition 114 = .ok (.invokevirtual 270, 3) := dk_182 1 14 (dk_at dksX1_addCondition_4 21 rfl rfl)
theorem dX1_addCondition_117 : decode cX1_addCondition 117 = .ok (.aload 5, 2) := dk_25 5 (dk_at dksX1_addCondition_5 0 rfl rfl)
theorem dX1_addCondition_119 : decode cX1_addCondition 119 = .ok (.getfield 260, 3) := dk_180 1 4 (dk_at dksX1_addCondition_5 2 rfl rfl)
theorem dX1_addCondition_122 : decode cX1_addCondition 122 = .ok (.ireturn, 1) := dk_172 (dk_at dksX1_addCondition_5 5 rfl rfl)
abbrev cX1_setThreshold : ByteArray := prog_1_method_28_code
def yX1_setThreshold : MethodName := ⟨RX1, "setThreshold", "(I)I"⟩
def dkwX1_setThreshold_0 : List UInt8 := [27, 133, 9, 20, 0, 169, 184, 0, 12, 184, 0, 85, 42, 180, 0, 43, 61, 42, 27, 181, 0, 43, 28, 172]
abbrev dktX1_setThreshold_0 : List UInt8 := dkwX1_setThreshold_0 ++ []
theorem dksX1_setThreshold_0 : cX1_setThreshold.data.toList.drop 0 = dktX1_setThreshold_0 := by decide +kernel
theorem dX1_setThreshold_0 : decode cX1_setThreshold 0 = .ok (.iload_n 1, 1) := dk_27 (dk_at dksX1_setThreshold_0 0 rfl rfl)
theorem dX1_setThreshold_1 : decode cX1_setThreshold 1 = .ok (.i2l, 1) := dk_133 (dk_at dksX1_setThreshold_0 1 rfl rfl)
theorem dX1_setThreshold_2 : decode cX1_setThreshold 2 = .ok (.lconst 0, 1) := dk_9 (dk_at dksX1_setThreshold_0 2 rfl rfl)
theorem dX1_setThreshold_3 : decode cX1_setThreshold 3 = .ok (.ldc2_w 169, 3) := dk_20 0 169 (dk_at dksX1_setThreshold_0 3 rfl rfl)
theorem dX1_setThreshold_6 : decode cX1_setThreshold 6 = .ok (.invokestatic 12, 3) := dk_184 0 12 (dk_at dksX1_setThreshold_0 6 rfl rfl)
theorem dX1_setThreshold_9 : decode cX1_setThreshold 9 = .ok (.invokestatic 85, 3) := dk_184 0 85 (dk_at dksX1_setThreshold_0 9 rfl rfl)
theorem dX1_setThreshold_12 : decode cX1_setThreshold 12 = .ok (.aload_n 0, 1) := dk_42 (dk_at dksX1_setThreshold_0 12 rfl rfl)
theorem dX1_setThreshold_13 : decode cX1_setThreshold 13 = .ok (.getfield 43, 3) := dk_180 0 43 (dk_at dksX1_setThreshold_0 13 rfl rfl)
theorem dX1_setThreshold_16 : decode cX1_setThreshold 16 = .ok (.istore_n 2, 1) := dk_61 (dk_at dksX1_setThreshold_0 16 rfl rfl)
theorem dX1_setThreshold_17 : decode cX1_setThreshold 17 = .ok (.aload_n 0, 1) := dk_42 (dk_at dksX1_setThreshold_0 17 rfl rfl)
theorem dX1_setThreshold_18 : decode cX1_setThreshold 18 = .ok (.iload_n 1, 1) := dk_27 (dk_at dksX1_setThreshold_0 18 rfl rfl)
theorem dX1_setThreshold_19 : decode cX1_setThreshold 19 = .ok (.putfield 43, 3) := dk_181 0 43 (dk_at dksX1_setThreshold_0 19 rfl rfl)
theorem dX1_setThreshold_22 : decode cX1_setThreshold 22 = .ok (.iload_n 2, 1) := dk_28 (dk_at dksX1_setThreshold_0 22 rfl rfl)
theorem dX1_setThreshold_23 : decode cX1_setThreshold 23 = .ok (.ireturn, 1) := dk_172 (dk_at dksX1_setThreshold_0 23 rfl rfl)
abbrev cX1_type : ByteArray := prog_1_method_62_code
def yX1_type : MethodName := ⟨RX1, "type", "(I)I"⟩
def dkwX1_type_2 : List UInt8 := [180, 0, 79, 182, 1, 193, 172]
abbrev dktX1_type_2 : List UInt8 := dkwX1_type_2 ++ []
def dkwX1_type_1 : List UInt8 := [162, 0, 7, 4, 167, 0, 4, 3, 184, 0, 93, 42, 180, 0, 79, 27, 146, 182, 1, 197, 87, 42]
abbrev dktX1_type_1 : List UInt8 := dkwX1_type_1 ++ dktX1_type_2
def dkwX1_type_0 : List UInt8 := [27, 133, 9, 20, 1, 195, 184, 0, 12, 184, 0, 85, 42, 180, 0, 79, 182, 1, 193, 17, 0, 150]
abbrev dktX1_type_0 : List UInt8 := dkwX1_type_0 ++ dktX1_type_1
theorem dksX1_type_0 : cX1_type.data.toList.drop 0 = dktX1_type_0 := by decide +kernel
theorem dksX1_type_1 : cX1_type.data.toList.drop 22 = dktX1_type_1 := dk_seg dksX1_type_0 22 rfl rfl
theorem dksX1_type_2 : cX1_type.data.toList.drop 44 = dktX1_type_2 := dk_seg dksX1_type_1 22 rfl rfl
theorem dX1_type_0 : decode cX1_type 0 = .ok (.iload_n 1, 1) := dk_27 (dk_at dksX1_type_0 0 rfl rfl)
theorem dX1_type_1 : decode cX1_type 1 = .ok (.i2l, 1) := dk_133 (dk_at dksX1_type_0 1 rfl rfl)
theorem dX1_type_2 : decode cX1_type 2 = .ok (.lconst 0, 1) := dk_9 (dk_at dksX1_type_0 2 rfl rfl)
theorem dX1_type_3 : decode cX1_type 3 = .ok (.ldc2_w 451, 3) := dk_20 1 195 (dk_at dksX1_type_0 3 rfl rfl)
theorem dX1_type_6 : decode cX1_type 6 = .ok (.invokestatic 12, 3) := dk_184 0 12 (dk_at dksX1_type_0 6 rfl rfl)
theorem dX1_type_9 : decode cX1_type 9 = .ok (.invokestatic 85, 3) := dk_184 0 85 (dk_at dksX1_type_0 9 rfl rfl)
theorem dX1_type_12 : decode cX1_type 12 = .ok (.aload_n 0, 1) := dk_42 (dk_at dksX1_type_0 12 rfl rfl)
theorem dX1_type_13 : decode cX1_type 13 = .ok (.getfield 79, 3) := dk_180 0 79 (dk_at dksX1_type_0 13 rfl rfl)
theorem dX1_type_16 : decode cX1_type 16 = .ok (.invokevirtual 449, 3) := dk_182 1 193 (dk_at dksX1_type_0 16 rfl rfl)
theorem dX1_type_19 : decode cX1_type 19 = .ok (.sipush 150, 3) := dk_17 0 150 (dk_at dksX1_type_0 19 rfl rfl)
theorem dX1_type_22 : decode cX1_type 22 = .ok (.if_icmp .ge 7, 3) := dk_162 0 7 (dk_at dksX1_type_1 0 rfl rfl)
theorem dX1_type_25 : decode cX1_type 25 = .ok (.iconst 1, 1) := dk_4 (dk_at dksX1_type_1 3 rfl rfl)
theorem dX1_type_26 : decode cX1_type 26 = .ok (.goto 4, 3) := dk_167 0 4 (dk_at dksX1_type_1 4 rfl rfl)
theorem dX1_type_29 : decode cX1_type 29 = .ok (.iconst 0, 1) := dk_3 (dk_at dksX1_type_1 7 rfl rfl)
theorem dX1_type_30 : decode cX1_type 30 = .ok (.invokestatic 93, 3) := dk_184 0 93 (dk_at dksX1_type_1 8 rfl rfl)
theorem dX1_type_33 : decode cX1_type 33 = .ok (.aload_n 0, 1) := dk_42 (dk_at dksX1_type_1 11 rfl rfl)
theorem dX1_type_34 : decode cX1_type 34 = .ok (.getfield 79, 3) := dk_180 0 79 (dk_at dksX1_type_1 12 rfl rfl)
theorem dX1_type_37 : decode cX1_type 37 = .ok (.iload_n 1, 1) := dk_27 (dk_at dksX1_type_1 15 rfl rfl)
theorem dX1_type_38 : decode cX1_type 38 = .ok (.i2c, 1) := dk_146 (dk_at dksX1_type_1 16 rfl rfl)
theorem dX1_type_39 : decode cX1_type 39 = .ok (.invokevirtual 453, 3) := dk_182 1 197 (dk_at dksX1_type_1 17 rfl rfl)
theorem dX1_type_42 : decode cX1_type 42 = .ok (.pop, 1) := dk_87 (dk_at dksX1_type_1 20 rfl rfl)
theorem dX1_type_43 : decode cX1_type 43 = .ok (.aload_n 0, 1) := dk_42 (dk_at dksX1_type_1 21 rfl rfl)
theorem dX1_type_44 : decode cX1_type 44 = .ok (.getfield 79, 3) := dk_180 0 79 (dk_at dksX1_type_2 0 rfl rfl)
theorem dX1_type_47 : decode cX1_type 47 = .ok (.invokevirtual 449, 3) := dk_182 1 193 (dk_at dksX1_type_2 3 rfl rfl)
theorem dX1_type_50 : decode cX1_type 50 = .ok (.ireturn, 1) := dk_172 (dk_at dksX1_type_2 6 rfl rfl)
abbrev cX1_load : ByteArray := prog_1_method_65_code
def yX1_load : MethodName := ⟨RX1, "load", "()I"⟩
def dkwX1_load_2 : List UInt8 := [132, 2, 1, 167, 255, 226, 42, 180, 0, 79, 3, 182, 1, 200, 43, 180, 1, 212, 182, 0, 89, 172]
abbrev dktX1_load_2 : List UInt8 := dkwX1_load_2 ++ []
def dkwX1_load_1 : List UInt8 := [182, 0, 89, 162, 0, 25, 42, 43, 180, 1, 212, 28, 182, 0, 107, 192, 0, 224, 182, 0, 229, 87]
abbrev dktX1_load_1 : List UInt8 := dkwX1_load_1 ++ dktX1_load_2
def dkwX1_load_0 : List UInt8 := [187, 1, 203, 89, 42, 183, 1, 205, 76, 43, 182, 1, 206, 184, 0, 93, 3, 61, 28, 43, 180, 1, 212]
abbrev dktX1_load_0 : List UInt8 := dkwX1_load_0 ++ dktX1_load_1
theorem dksX1_load_0 : cX1_load.data.toList.drop 0 = dktX1_load_0 := by decide +kernel
theorem dksX1_load_1 : cX1_load.data.toList.drop 23 = dktX1_load_1 := dk_seg dksX1_load_0 23 rfl rfl
theorem dksX1_load_2 : cX1_load.data.toList.drop 45 = dktX1_load_2 := dk_seg dksX1_load_1 22 rfl rfl
theorem dX1_load_0 : decode cX1_load 0 = .ok (.new 459, 3) := dk_187 1 203 (dk_at dksX1_load_0 0 rfl rfl)
theorem dX1_load_3 : decode cX1_load 3 = .ok (.dup, 1) := dk_89 (dk_at dksX1_load_0 3 rfl rfl)
theorem dX1_load_4 : decode cX1_load 4 = .ok (.aload_n 0, 1) := dk_42 (dk_at dksX1_load_0 4 rfl rfl)
theorem dX1_load_5 : decode cX1_load 5 = .ok (.invokespecial 461, 3) := dk_183 1 205 (dk_at dksX1_load_0 5 rfl rfl)
theorem dX1_load_8 : decode cX1_load 8 = .ok (.astore_n 1, 1) := dk_76 (dk_at dksX1_load_0 8 rfl rfl)
theorem dX1_load_9 : decode cX1_load 9 = .ok (.aload_n 1, 1) := dk_43 (dk_at dksX1_load_0 9 rfl rfl)
theorem dX1_load_10 : decode cX1_load 10 = .ok (.invokevirtual 462, 3) := dk_182 1 206 (dk_at dksX1_load_0 10 rfl rfl)
theorem dX1_load_13 : decode cX1_load 13 = .ok (.invokestatic 93, 3) := dk_184 0 93 (dk_at dksX1_load_0 13 rfl rfl)
theorem dX1_load_16 : decode cX1_load 16 = .ok (.iconst 0, 1) := dk_3 (dk_at dksX1_load_0 16 rfl rfl)
theorem dX1_load_17 : decode cX1_load 17 = .ok (.istore_n 2, 1) := dk_61 (dk_at dksX1_load_0 17 rfl rfl)
theorem dX1_load_18 : decode cX1_load 18 = .ok (.iload_n 2, 1) := dk_28 (dk_at dksX1_load_0 18 rfl rfl)
theorem dX1_load_19 : decode cX1_load 19 = .ok (.aload_n 1, 1) := dk_43 (dk_at dksX1_load_0 19 rfl rfl)
theorem dX1_load_20 : decode cX1_load 20 = .ok (.getfield 468, 3) := dk_180 1 212 (dk_at dksX1_load_0 20 rfl rfl)
theorem dX1_load_23 : decode cX1_load 23 = .ok (.invokevirtual 89, 3) := dk_182 0 89 (dk_at dksX1_load_1 0 rfl rfl)
theorem dX1_load_26 : decode cX1_load 26 = .ok (.if_icmp .ge 25, 3) := dk_162 0 25 (dk_at dksX1_load_1 3 rfl rfl)
theorem dX1_load_29 : decode cX1_load 29 = .ok (.aload_n 0, 1) := dk_42 (dk_at dksX1_load_1 6 rfl rfl)
theorem dX1_load_30 : decode cX1_load 30 = .ok (.aload_n 1, 1) := dk_43 (dk_at dksX1_load_1 7 rfl rfl)
theorem dX1_load_31 : decode cX1_load 31 = .ok (.getfield 468, 3) := dk_180 1 212 (dk_at dksX1_load_1 8 rfl rfl)
theorem dX1_load_34 : decode cX1_load 34 = .ok (.iload_n 2, 1) := dk_28 (dk_at dksX1_load_1 11 rfl rfl)
theorem dX1_load_35 : decode cX1_load 35 = .ok (.invokevirtual 107, 3) := dk_182 0 107 (dk_at dksX1_load_1 12 rfl rfl)
theorem dX1_load_38 : decode cX1_load 38 = .ok (.checkcast 224, 3) := dk_192 0 224 (dk_at dksX1_load_1 15 rfl rfl)
theorem dX1_load_41 : decode cX1_load 41 = .ok (.invokevirtual 229, 3) := dk_182 0 229 (dk_at dksX1_load_1 18 rfl rfl)
theorem dX1_load_44 : decode cX1_load 44 = .ok (.pop, 1) := dk_87 (dk_at dksX1_load_1 21 rfl rfl)
theorem dX1_load_45 : decode cX1_load 45 = .ok (.iinc 2 1, 3) := dk_132 2 1 (dk_at dksX1_load_2 0 rfl rfl)
theorem dX1_load_48 : decode cX1_load 48 = .ok (.goto (-30), 3) := dk_167 255 226 (dk_at dksX1_load_2 3 rfl rfl)
theorem dX1_load_51 : decode cX1_load 51 = .ok (.aload_n 0, 1) := dk_42 (dk_at dksX1_load_2 6 rfl rfl)
theorem dX1_load_52 : decode cX1_load 52 = .ok (.getfield 79, 3) := dk_180 0 79 (dk_at dksX1_load_2 7 rfl rfl)
theorem dX1_load_55 : decode cX1_load 55 = .ok (.iconst 0, 1) := dk_3 (dk_at dksX1_load_2 10 rfl rfl)
theorem dX1_load_56 : decode cX1_load 56 = .ok (.invokevirtual 456, 3) := dk_182 1 200 (dk_at dksX1_load_2 11 rfl rfl)
theorem dX1_load_59 : decode cX1_load 59 = .ok (.aload_n 1, 1) := dk_43 (dk_at dksX1_load_2 14 rfl rfl)
theorem dX1_load_60 : decode cX1_load 60 = .ok (.getfield 468, 3) := dk_180 1 212 (dk_at dksX1_load_2 15 rfl rfl)
theorem dX1_load_63 : decode cX1_load 63 = .ok (.invokevirtual 89, 3) := dk_182 0 89 (dk_at dksX1_load_2 18 rfl rfl)
theorem dX1_load_66 : decode cX1_load 66 = .ok (.ireturn, 1) := dk_172 (dk_at dksX1_load_2 21 rfl rfl)
abbrev cX1_tick : ByteArray := prog_1_method_32_code
def yX1_tick : MethodName := ⟨RX1, "tick", "(I)I"⟩
def dkwX1_tick_1 : List UInt8 := [27, 162, 0, 16, 29, 44, 182, 1, 47, 96, 62, 132, 4, 1, 167, 255, 240, 29, 172]
abbrev dktX1_tick_1 : List UInt8 := dkwX1_tick_1 ++ []
def dkwX1_tick_0 : List UInt8 := [27, 133, 10, 20, 0, 169, 184, 0, 12, 184, 0, 85, 42, 182, 1, 43, 77, 3, 62, 3, 54, 4, 21, 4]
abbrev dktX1_tick_0 : List UInt8 := dkwX1_tick_0 ++ dktX1_tick_1
theorem dksX1_tick_0 : cX1_tick.data.toList.drop 0 = dktX1_tick_0 := by decide +kernel
theorem dksX1_tick_1 : cX1_tick.data.toList.drop 24 = dktX1_tick_1 := dk_seg dksX1_tick_0 24 rfl rfl
theorem dX1_tick_0 : decode cX1_tick 0 = .ok (.iload_n 1, 1) := dk_27 (dk_at dksX1_tick_0 0 rfl rfl)
theorem dX1_tick_1 : decode cX1_tick 1 = .ok (.i2l, 1) := dk_133 (dk_at dksX1_tick_0 1 rfl rfl)
theorem dX1_tick_2 : decode cX1_tick 2 = .ok (.lconst 1, 1) := dk_10 (dk_at dksX1_tick_0 2 rfl rfl)
theorem dX1_tick_3 : decode cX1_tick 3 = .ok (.ldc2_w 169, 3) := dk_20 0 169 (dk_at dksX1_tick_0 3 rfl rfl)
theorem dX1_tick_6 : decode cX1_tick 6 = .ok (.invokestatic 12, 3) := dk_184 0 12 (dk_at dksX1_tick_0 6 rfl rfl)
theorem dX1_tick_9 : decode cX1_tick 9 = .ok (.invokestatic 85, 3) := dk_184 0 85 (dk_at dksX1_tick_0 9 rfl rfl)
theorem dX1_tick_12 : decode cX1_tick 12 = .ok (.aload_n 0, 1) := dk_42 (dk_at dksX1_tick_0 12 rfl rfl)
theorem dX1_tick_13 : decode cX1_tick 13 = .ok (.invokevirtual 299, 3) := dk_182 1 43 (dk_at dksX1_tick_0 13 rfl rfl)
theorem dX1_tick_16 : decode cX1_tick 16 = .ok (.astore_n 2, 1) := dk_77 (dk_at dksX1_tick_0 16 rfl rfl)
theorem dX1_tick_17 : decode cX1_tick 17 = .ok (.iconst 0, 1) := dk_3 (dk_at dksX1_tick_0 17 rfl rfl)
theorem dX1_tick_18 : decode cX1_tick 18 = .ok (.istore_n 3, 1) := dk_62 (dk_at dksX1_tick_0 18 rfl rfl)
theorem dX1_tick_19 : decode cX1_tick 19 = .ok (.iconst 0, 1) := dk_3 (dk_at dksX1_tick_0 19 rfl rfl)
theorem dX1_tick_20 : decode cX1_tick 20 = .ok (.istore 4, 2) := dk_54 4 (dk_at dksX1_tick_0 20 rfl rfl)
theorem dX1_tick_22 : decode cX1_tick 22 = .ok (.iload 4, 2) := dk_21 4 (dk_at dksX1_tick_0 22 rfl rfl)
theorem dX1_tick_24 : decode cX1_tick 24 = .ok (.iload_n 1, 1) := dk_27 (dk_at dksX1_tick_1 0 rfl rfl)
theorem dX1_tick_25 : decode cX1_tick 25 = .ok (.if_icmp .ge 16, 3) := dk_162 0 16 (dk_at dksX1_tick_1 1 rfl rfl)
theorem dX1_tick_28 : decode cX1_tick 28 = .ok (.iload_n 3, 1) := dk_29 (dk_at dksX1_tick_1 4 rfl rfl)
theorem dX1_tick_29 : decode cX1_tick 29 = .ok (.aload_n 2, 1) := dk_44 (dk_at dksX1_tick_1 5 rfl rfl)
theorem dX1_tick_30 : decode cX1_tick 30 = .ok (.invokevirtual 303, 3) := dk_182 1 47 (dk_at dksX1_tick_1 6 rfl rfl)
theorem dX1_tick_33 : decode cX1_tick 33 = .ok (.iadd, 1) := dk_96 (dk_at dksX1_tick_1 9 rfl rfl)
theorem dX1_tick_34 : decode cX1_tick 34 = .ok (.istore_n 3, 1) := dk_62 (dk_at dksX1_tick_1 10 rfl rfl)
theorem dX1_tick_35 : decode cX1_tick 35 = .ok (.iinc 4 1, 3) := dk_132 4 1 (dk_at dksX1_tick_1 11 rfl rfl)
theorem dX1_tick_38 : decode cX1_tick 38 = .ok (.goto (-16), 3) := dk_167 255 240 (dk_at dksX1_tick_1 14 rfl rfl)
theorem dX1_tick_41 : decode cX1_tick 41 = .ok (.iload_n 3, 1) := dk_29 (dk_at dksX1_tick_1 17 rfl rfl)
theorem dX1_tick_42 : decode cX1_tick 42 = .ok (.ireturn, 1) := dk_172 (dk_at dksX1_tick_1 18 rfl rfl)
abbrev cX1_running : ByteArray := prog_1_method_31_code
def yX1_running : MethodName := ⟨RX1, "running", "()LAnimationController$Machine;"⟩
def dkwX1_running_0 : List UInt8 := [42, 180, 0, 211, 198, 0, 7, 4, 167, 0, 4, 3, 184, 0, 93, 42, 180, 0, 211, 176]
abbrev dktX1_running_0 : List UInt8 := dkwX1_running_0 ++ []
theorem dksX1_running_0 : cX1_running.data.toList.drop 0 = dktX1_running_0 := by decide +kernel
theorem dX1_running_0 : decode cX1_running 0 = .ok (.aload_n 0, 1) := dk_42 (dk_at dksX1_running_0 0 rfl rfl)
theorem dX1_running_1 : decode cX1_running 1 = .ok (.getfield 211, 3) := dk_180 0 211 (dk_at dksX1_running_0 1 rfl rfl)
theorem dX1_running_4 : decode cX1_running 4 = .ok (.ifnull 7, 3) := dk_198 0 7 (dk_at dksX1_running_0 4 rfl rfl)
theorem dX1_running_7 : decode cX1_running 7 = .ok (.iconst 1, 1) := dk_4 (dk_at dksX1_running_0 7 rfl rfl)
theorem dX1_running_8 : decode cX1_running 8 = .ok (.goto 4, 3) := dk_167 0 4 (dk_at dksX1_running_0 8 rfl rfl)
theorem dX1_running_11 : decode cX1_running 11 = .ok (.iconst 0, 1) := dk_3 (dk_at dksX1_running_0 11 rfl rfl)
theorem dX1_running_12 : decode cX1_running 12 = .ok (.invokestatic 93, 3) := dk_184 0 93 (dk_at dksX1_running_0 12 rfl rfl)
theorem dX1_running_15 : decode cX1_running 15 = .ok (.aload_n 0, 1) := dk_42 (dk_at dksX1_running_0 15 rfl rfl)
theorem dX1_running_16 : decode cX1_running 16 = .ok (.getfield 211, 3) := dk_180 0 211 (dk_at dksX1_running_0 16 rfl rfl)
theorem dX1_running_19 : decode cX1_running 19 = .ok (.areturn, 1) := dk_176 (dk_at dksX1_running_0 19 rfl rfl)
abbrev cX1_lengthOf : ByteArray := prog_1_method_30_code
def yX1_lengthOf : MethodName := ⟨RX1, "lengthOf", "(LAnimationController$State;)I"⟩
def dkwX1_lengthOf_1 : List UInt8 := [20, 1, 35, 109, 184, 1, 37, 136, 172]
abbrev dktX1_lengthOf_1 : List UInt8 := dkwX1_lengthOf_1 ++ []
def dkwX1_lengthOf_0 : List UInt8 := [42, 42, 180, 0, 66, 43, 180, 1, 24, 19, 1, 28, 182, 1, 29, 10, 42, 180, 0, 66, 182, 1, 32]
abbrev dktX1_lengthOf_0 : List UInt8 := dkwX1_lengthOf_0 ++ dktX1_lengthOf_1
theorem dksX1_lengthOf_0 : cX1_lengthOf.data.toList.drop 0 = dktX1_lengthOf_0 := by decide +kernel
theorem dksX1_lengthOf_1 : cX1_lengthOf.data.toList.drop 23 = dktX1_lengthOf_1 := dk_seg dksX1_lengthOf_0 23 rfl rfl
theorem dX1_lengthOf_0 : decode cX1_lengthOf 0 = .ok (.aload_n 0, 1) := dk_42 (dk_at dksX1_lengthOf_0 0 rfl rfl)
theorem dX1_lengthOf_1 : decode cX1_lengthOf 1 = .ok (.aload_n 0, 1) := dk_42 (dk_at dksX1_lengthOf_0 1 rfl rfl)
theorem dX1_lengthOf_2 : decode cX1_lengthOf 2 = .ok (.getfield 66, 3) := dk_180 0 66 (dk_at dksX1_lengthOf_0 2 rfl rfl)
theorem dX1_lengthOf_5 : decode cX1_lengthOf 5 = .ok (.aload_n 1, 1) := dk_43 (dk_at dksX1_lengthOf_0 5 rfl rfl)
theorem dX1_lengthOf_6 : decode cX1_lengthOf 6 = .ok (.getfield 280, 3) := dk_180 1 24 (dk_at dksX1_lengthOf_0 6 rfl rfl)
theorem dX1_lengthOf_9 : decode cX1_lengthOf 9 = .ok (.ldc_w 284, 3) := dk_19 1 28 (dk_at dksX1_lengthOf_0 9 rfl rfl)
theorem dX1_lengthOf_12 : decode cX1_lengthOf 12 = .ok (.invokevirtual 285, 3) := dk_182 1 29 (dk_at dksX1_lengthOf_0 12 rfl rfl)
theorem dX1_lengthOf_15 : decode cX1_lengthOf 15 = .ok (.lconst 1, 1) := dk_10 (dk_at dksX1_lengthOf_0 15 rfl rfl)
theorem dX1_lengthOf_16 : decode cX1_lengthOf 16 = .ok (.aload_n 0, 1) := dk_42 (dk_at dksX1_lengthOf_0 16 rfl rfl)
theorem dX1_lengthOf_17 : decode cX1_lengthOf 17 = .ok (.getfield 66, 3) := dk_180 0 66 (dk_at dksX1_lengthOf_0 17 rfl rfl)
theorem dX1_lengthOf_20 : decode cX1_lengthOf 20 = .ok (.invokevirtual 288, 3) := dk_182 1 32 (dk_at dksX1_lengthOf_0 20 rfl rfl)
theorem dX1_lengthOf_23 : decode cX1_lengthOf 23 = .ok (.ldc2_w 291, 3) := dk_20 1 35 (dk_at dksX1_lengthOf_1 0 rfl rfl)
theorem dX1_lengthOf_26 : decode cX1_lengthOf 26 = .ok (.ldiv, 1) := dk_109 (dk_at dksX1_lengthOf_1 3 rfl rfl)
theorem dX1_lengthOf_27 : decode cX1_lengthOf 27 = .ok (.invokestatic 293, 3) := dk_184 1 37 (dk_at dksX1_lengthOf_1 4 rfl rfl)
theorem dX1_lengthOf_30 : decode cX1_lengthOf 30 = .ok (.l2i, 1) := dk_136 (dk_at dksX1_lengthOf_1 7 rfl rfl)
theorem dX1_lengthOf_31 : decode cX1_lengthOf 31 = .ok (.ireturn, 1) := dk_172 (dk_at dksX1_lengthOf_1 8 rfl rfl)
abbrev cX1_state : ByteArray := prog_1_method_34_code
def yX1_state : MethodName := ⟨RX1, "state", "()I"⟩
def dkwX1_state_0 : List UInt8 := [42, 182, 1, 43, 180, 1, 53, 180, 1, 57, 180, 0, 215, 172]
abbrev dktX1_state_0 : List UInt8 := dkwX1_state_0 ++ []
theorem dksX1_state_0 : cX1_state.data.toList.drop 0 = dktX1_state_0 := by decide +kernel
theorem dX1_state_0 : decode cX1_state 0 = .ok (.aload_n 0, 1) := dk_42 (dk_at dksX1_state_0 0 rfl rfl)
theorem dX1_state_1 : decode cX1_state 1 = .ok (.invokevirtual 299, 3) := dk_182 1 43 (dk_at dksX1_state_0 1 rfl rfl)
theorem dX1_state_4 : decode cX1_state 4 = .ok (.getfield 309, 3) := dk_180 1 53 (dk_at dksX1_state_0 4 rfl rfl)
theorem dX1_state_7 : decode cX1_state 7 = .ok (.getfield 313, 3) := dk_180 1 57 (dk_at dksX1_state_0 7 rfl rfl)
theorem dX1_state_10 : decode cX1_state 10 = .ok (.getfield 215, 3) := dk_180 0 215 (dk_at dksX1_state_0 10 rfl rfl)
theorem dX1_state_13 : decode cX1_state 13 = .ok (.ireturn, 1) := dk_172 (dk_at dksX1_state_0 13 rfl rfl)
abbrev cX1_progress : ByteArray := prog_1_method_40_code
def yX1_progress : MethodName := ⟨RX1, "progress", "(Z)J"⟩
def dkwX1_progress_1 : List UInt8 := [27, 153, 0, 13, 44, 180, 1, 68, 182, 1, 80, 167, 0, 10, 44, 180, 1, 53, 182, 1, 80, 173]
abbrev dktX1_progress_1 : List UInt8 := dkwX1_progress_1 ++ []
def dkwX1_progress_0 : List UInt8 := [42, 182, 1, 43, 77, 27, 153, 0, 10, 44, 182, 1, 62, 154, 0, 7, 4, 167, 0, 4, 3, 184, 0, 93]
abbrev dktX1_progress_0 : List UInt8 := dkwX1_progress_0 ++ dktX1_progress_1
theorem dksX1_progress_0 : cX1_progress.data.toList.drop 0 = dktX1_progress_0 := by decide +kernel
theorem dksX1_progress_1 : cX1_progress.data.toList.drop 24 = dktX1_progress_1 := dk_seg dksX1_progress_0 24 rfl rfl
theorem dX1_progress_0 : decode cX1_progress 0 = .ok (.aload_n 0, 1) := dk_42 (dk_at dksX1_progress_0 0 rfl rfl)
theorem dX1_progress_1 : decode cX1_progress 1 = .ok (.invokevirtual 299, 3) := dk_182 1 43 (dk_at dksX1_progress_0 1 rfl rfl)
theorem dX1_progress_4 : decode cX1_progress 4 = .ok (.astore_n 2, 1) := dk_77 (dk_at dksX1_progress_0 4 rfl rfl)
theorem dX1_progress_5 : decode cX1_progress 5 = .ok (.iload_n 1, 1) := dk_27 (dk_at dksX1_progress_0 5 rfl rfl)
theorem dX1_progress_6 : decode cX1_progress 6 = .ok (.ifCond .eq 10, 3) := dk_153 0 10 (dk_at dksX1_progress_0 6 rfl rfl)
theorem dX1_progress_9 : decode cX1_progress 9 = .ok (.aload_n 2, 1) := dk_44 (dk_at dksX1_progress_0 9 rfl rfl)
theorem dX1_progress_10 : decode cX1_progress 10 = .ok (.invokevirtual 318, 3) := dk_182 1 62 (dk_at dksX1_progress_0 10 rfl rfl)
theorem dX1_progress_13 : decode cX1_progress 13 = .ok (.ifCond .ne 7, 3) := dk_154 0 7 (dk_at dksX1_progress_0 13 rfl rfl)
theorem dX1_progress_16 : decode cX1_progress 16 = .ok (.iconst 1, 1) := dk_4 (dk_at dksX1_progress_0 16 rfl rfl)
theorem dX1_progress_17 : decode cX1_progress 17 = .ok (.goto 4, 3) := dk_167 0 4 (dk_at dksX1_progress_0 17 rfl rfl)
theorem dX1_progress_20 : decode cX1_progress 20 = .ok (.iconst 0, 1) := dk_3 (dk_at dksX1_progress_0 20 rfl rfl)
theorem dX1_progress_21 : decode cX1_progress 21 = .ok (.invokestatic 93, 3) := dk_184 0 93 (dk_at dksX1_progress_0 21 rfl rfl)
theorem dX1_progress_24 : decode cX1_progress 24 = .ok (.iload_n 1, 1) := dk_27 (dk_at dksX1_progress_1 0 rfl rfl)
theorem dX1_progress_25 : decode cX1_progress 25 = .ok (.ifCond .eq 13, 3) := dk_153 0 13 (dk_at dksX1_progress_1 1 rfl rfl)
theorem dX1_progress_28 : decode cX1_progress 28 = .ok (.aload_n 2, 1) := dk_44 (dk_at dksX1_progress_1 4 rfl rfl)
theorem dX1_progress_29 : decode cX1_progress 29 = .ok (.getfield 324, 3) := dk_180 1 68 (dk_at dksX1_progress_1 5 rfl rfl)
theorem dX1_progress_32 : decode cX1_progress 32 = .ok (.invokevirtual 336, 3) := dk_182 1 80 (dk_at dksX1_progress_1 8 rfl rfl)
theorem dX1_progress_35 : decode cX1_progress 35 = .ok (.goto 10, 3) := dk_167 0 10 (dk_at dksX1_progress_1 11 rfl rfl)
theorem dX1_progress_38 : decode cX1_progress 38 = .ok (.aload_n 2, 1) := dk_44 (dk_at dksX1_progress_1 14 rfl rfl)
theorem dX1_progress_39 : decode cX1_progress 39 = .ok (.getfield 309, 3) := dk_180 1 53 (dk_at dksX1_progress_1 15 rfl rfl)
theorem dX1_progress_42 : decode cX1_progress 42 = .ok (.invokevirtual 336, 3) := dk_182 1 80 (dk_at dksX1_progress_1 18 rfl rfl)
theorem dX1_progress_45 : decode cX1_progress 45 = .ok (.lreturn, 1) := dk_173 (dk_at dksX1_progress_1 21 rfl rfl)
abbrev cX1_stateLength : ByteArray := prog_1_method_41_code
def yX1_stateLength : MethodName := ⟨RX1, "stateLength", "(I)I"⟩
def dkwX1_stateLength_0 : List UInt8 := [42, 42, 27, 182, 0, 218, 182, 1, 83, 172]
abbrev dktX1_stateLength_0 : List UInt8 := dkwX1_stateLength_0 ++ []
theorem dksX1_stateLength_0 : cX1_stateLength.data.toList.drop 0 = dktX1_stateLength_0 := by decide +kernel
theorem dX1_stateLength_0 : decode cX1_stateLength 0 = .ok (.aload_n 0, 1) := dk_42 (dk_at dksX1_stateLength_0 0 rfl rfl)
theorem dX1_stateLength_1 : decode cX1_stateLength 1 = .ok (.aload_n 0, 1) := dk_42 (dk_at dksX1_stateLength_0 1 rfl rfl)
theorem dX1_stateLength_2 : decode cX1_stateLength 2 = .ok (.iload_n 1, 1) := dk_27 (dk_at dksX1_stateLength_0 2 rfl rfl)
theorem dX1_stateLength_3 : decode cX1_stateLength 3 = .ok (.invokevirtual 218, 3) := dk_182 0 218 (dk_at dksX1_stateLength_0 3 rfl rfl)
theorem dX1_stateLength_6 : decode cX1_stateLength 6 = .ok (.invokevirtual 339, 3) := dk_182 1 83 (dk_at dksX1_stateLength_0 6 rfl rfl)
theorem dX1_stateLength_9 : decode cX1_stateLength 9 = .ok (.ireturn, 1) := dk_172 (dk_at dksX1_stateLength_0 9 rfl rfl)
abbrev cX1_partWeight : ByteArray := prog_1_method_42_code
def yX1_partWeight : MethodName := ⟨RX1, "partWeight", "(II)I"⟩
def dkwX1_partWeight_1 : List UInt8 := [180, 1, 24, 19, 1, 28, 182, 1, 29, 42, 180, 0, 59, 180, 1, 87, 28, 46, 172]
abbrev dktX1_partWeight_1 : List UInt8 := dkwX1_partWeight_1 ++ []
def dkwX1_partWeight_0 : List UInt8 := [42, 27, 182, 0, 218, 78, 28, 42, 180, 0, 31, 182, 0, 89, 184, 0, 103, 42, 42, 180, 0, 59, 45]
abbrev dktX1_partWeight_0 : List UInt8 := dkwX1_partWeight_0 ++ dktX1_partWeight_1
theorem dksX1_partWeight_0 : cX1_partWeight.data.toList.drop 0 = dktX1_partWeight_0 := by decide +kernel
theorem dksX1_partWeight_1 : cX1_partWeight.data.toList.drop 23 = dktX1_partWeight_1 := dk_seg dksX1_partWeight_0 23 rfl rfl
theorem dX1_partWeight_0 : decode cX1_partWeight 0 = .ok (.aload_n 0, 1) := dk_42 (dk_at dksX1_partWeight_0 0 rfl rfl)
theorem dX1_partWeight_1 : decode cX1_partWeight 1 = .ok (.iload_n 1, 1) := dk_27 (dk_at dksX1_partWeight_0 1 rfl rfl)
theorem dX1_partWeight_2 : decode cX1_partWeight 2 = .ok (.invokevirtual 218, 3) := dk_182 0 218 (dk_at dksX1_partWeight_0 2 rfl rfl)
theorem dX1_partWeight_5 : decode cX1_partWeight 5 = .ok (.astore_n 3, 1) := dk_78 (dk_at dksX1_partWeight_0 5 rfl rfl)
theorem dX1_partWeight_6 : decode cX1_partWeight 6 = .ok (.iload_n 2, 1) := dk_28 (dk_at dksX1_partWeight_0 6 rfl rfl)
theorem dX1_partWeight_7 : decode cX1_partWeight 7 = .ok (.aload_n 0, 1) := dk_42 (dk_at dksX1_partWeight_0 7 rfl rfl)
theorem dX1_partWeight_8 : decode cX1_partWeight 8 = .ok (.getfield 31, 3) := dk_180 0 31 (dk_at dksX1_partWeight_0 8 rfl rfl)
theorem dX1_partWeight_11 : decode cX1_partWeight 11 = .ok (.invokevirtual 89, 3) := dk_182 0 89 (dk_at dksX1_partWeight_0 11 rfl rfl)
theorem dX1_partWeight_14 : decode cX1_partWeight 14 = .ok (.invokestatic 103, 3) := dk_184 0 103 (dk_at dksX1_partWeight_0 14 rfl rfl)
theorem dX1_partWeight_17 : decode cX1_partWeight 17 = .ok (.aload_n 0, 1) := dk_42 (dk_at dksX1_partWeight_0 17 rfl rfl)
theorem dX1_partWeight_18 : decode cX1_partWeight 18 = .ok (.aload_n 0, 1) := dk_42 (dk_at dksX1_partWeight_0 18 rfl rfl)
theorem dX1_partWeight_19 : decode cX1_partWeight 19 = .ok (.getfield 59, 3) := dk_180 0 59 (dk_at dksX1_partWeight_0 19 rfl rfl)
theorem dX1_partWeight_22 : decode cX1_partWeight 22 = .ok (.aload_n 3, 1) := dk_45 (dk_at dksX1_partWeight_0 22 rfl rfl)
theorem dX1_partWeight_23 : decode cX1_partWeight 23 = .ok (.getfield 280, 3) := dk_180 1 24 (dk_at dksX1_partWeight_1 0 rfl rfl)
theorem dX1_partWeight_26 : decode cX1_partWeight 26 = .ok (.ldc_w 284, 3) := dk_19 1 28 (dk_at dksX1_partWeight_1 3 rfl rfl)
theorem dX1_partWeight_29 : decode cX1_partWeight 29 = .ok (.invokevirtual 285, 3) := dk_182 1 29 (dk_at dksX1_partWeight_1 6 rfl rfl)
theorem dX1_partWeight_32 : decode cX1_partWeight 32 = .ok (.aload_n 0, 1) := dk_42 (dk_at dksX1_partWeight_1 9 rfl rfl)
theorem dX1_partWeight_33 : decode cX1_partWeight 33 = .ok (.getfield 59, 3) := dk_180 0 59 (dk_at dksX1_partWeight_1 10 rfl rfl)
theorem dX1_partWeight_36 : decode cX1_partWeight 36 = .ok (.getfield 343, 3) := dk_180 1 87 (dk_at dksX1_partWeight_1 13 rfl rfl)
theorem dX1_partWeight_39 : decode cX1_partWeight 39 = .ok (.iload_n 2, 1) := dk_28 (dk_at dksX1_partWeight_1 16 rfl rfl)
theorem dX1_partWeight_40 : decode cX1_partWeight 40 = .ok (.iaload, 1) := dk_46 (dk_at dksX1_partWeight_1 17 rfl rfl)
theorem dX1_partWeight_41 : decode cX1_partWeight 41 = .ok (.ireturn, 1) := dk_172 (dk_at dksX1_partWeight_1 18 rfl rfl)
abbrev cX1_blocked : ByteArray := prog_1_method_43_code
def yX1_blocked : MethodName := ⟨RX1, "blocked", "(I)I"⟩
def dkwX1_blocked_1 : List UInt8 := [180, 0, 211, 27, 182, 1, 91, 172]
abbrev dktX1_blocked_1 : List UInt8 := dkwX1_blocked_1 ++ []
def dkwX1_blocked_0 : List UInt8 := [27, 42, 180, 0, 40, 182, 0, 89, 184, 0, 103, 42, 180, 0, 211, 199, 0, 7, 4, 167, 0, 11, 42]
abbrev dktX1_blocked_0 : List UInt8 := dkwX1_blocked_0 ++ dktX1_blocked_1
theorem dksX1_blocked_0 : cX1_blocked.data.toList.drop 0 = dktX1_blocked_0 := by decide +kernel
theorem dksX1_blocked_1 : cX1_blocked.data.toList.drop 23 = dktX1_blocked_1 := dk_seg dksX1_blocked_0 23 rfl rfl
theorem dX1_blocked_0 : decode cX1_blocked 0 = .ok (.iload_n 1, 1) := dk_27 (dk_at dksX1_blocked_0 0 rfl rfl)
theorem dX1_blocked_1 : decode cX1_blocked 1 = .ok (.aload_n 0, 1) := dk_42 (dk_at dksX1_blocked_0 1 rfl rfl)
theorem dX1_blocked_2 : decode cX1_blocked 2 = .ok (.getfield 40, 3) := dk_180 0 40 (dk_at dksX1_blocked_0 2 rfl rfl)
theorem dX1_blocked_5 : decode cX1_blocked 5 = .ok (.invokevirtual 89, 3) := dk_182 0 89 (dk_at dksX1_blocked_0 5 rfl rfl)
theorem dX1_blocked_8 : decode cX1_blocked 8 = .ok (.invokestatic 103, 3) := dk_184 0 103 (dk_at dksX1_blocked_0 8 rfl rfl)
theorem dX1_blocked_11 : decode cX1_blocked 11 = .ok (.aload_n 0, 1) := dk_42 (dk_at dksX1_blocked_0 11 rfl rfl)
theorem dX1_blocked_12 : decode cX1_blocked 12 = .ok (.getfield 211, 3) := dk_180 0 211 (dk_at dksX1_blocked_0 12 rfl rfl)
theorem dX1_blocked_15 : decode cX1_blocked 15 = .ok (.ifnonnull 7, 3) := dk_199 0 7 (dk_at dksX1_blocked_0 15 rfl rfl)
theorem dX1_blocked_18 : decode cX1_blocked 18 = .ok (.iconst 1, 1) := dk_4 (dk_at dksX1_blocked_0 18 rfl rfl)
theorem dX1_blocked_19 : decode cX1_blocked 19 = .ok (.goto 11, 3) := dk_167 0 11 (dk_at dksX1_blocked_0 19 rfl rfl)
theorem dX1_blocked_22 : decode cX1_blocked 22 = .ok (.aload_n 0, 1) := dk_42 (dk_at dksX1_blocked_0 22 rfl rfl)
theorem dX1_blocked_23 : decode cX1_blocked 23 = .ok (.getfield 211, 3) := dk_180 0 211 (dk_at dksX1_blocked_1 0 rfl rfl)
theorem dX1_blocked_26 : decode cX1_blocked 26 = .ok (.iload_n 1, 1) := dk_27 (dk_at dksX1_blocked_1 3 rfl rfl)
theorem dX1_blocked_27 : decode cX1_blocked 27 = .ok (.invokevirtual 347, 3) := dk_182 1 91 (dk_at dksX1_blocked_1 4 rfl rfl)
theorem dX1_blocked_30 : decode cX1_blocked 30 = .ok (.ireturn, 1) := dk_172 (dk_at dksX1_blocked_1 7 rfl rfl)
abbrev cX1_poseClip : ByteArray := prog_1_method_47_code
def yX1_poseClip : MethodName := ⟨RX1, "poseClip", "(I)I"⟩
def dkwX1_poseClip_0 : List UInt8 := [42, 27, 182, 1, 103, 180, 1, 106, 27, 46, 172]
abbrev dktX1_poseClip_0 : List UInt8 := dkwX1_poseClip_0 ++ []
theorem dksX1_poseClip_0 : cX1_poseClip.data.toList.drop 0 = dktX1_poseClip_0 := by decide +kernel
theorem dX1_poseClip_0 : decode cX1_poseClip 0 = .ok (.aload_n 0, 1) := dk_42 (dk_at dksX1_poseClip_0 0 rfl rfl)
theorem dX1_poseClip_1 : decode cX1_poseClip 1 = .ok (.iload_n 1, 1) := dk_27 (dk_at dksX1_poseClip_0 1 rfl rfl)
theorem dX1_poseClip_2 : decode cX1_poseClip 2 = .ok (.invokevirtual 359, 3) := dk_182 1 103 (dk_at dksX1_poseClip_0 2 rfl rfl)
theorem dX1_poseClip_5 : decode cX1_poseClip 5 = .ok (.getfield 362, 3) := dk_180 1 106 (dk_at dksX1_poseClip_0 5 rfl rfl)
theorem dX1_poseClip_8 : decode cX1_poseClip 8 = .ok (.iload_n 1, 1) := dk_27 (dk_at dksX1_poseClip_0 8 rfl rfl)
theorem dX1_poseClip_9 : decode cX1_poseClip 9 = .ok (.iaload, 1) := dk_46 (dk_at dksX1_poseClip_0 9 rfl rfl)
theorem dX1_poseClip_10 : decode cX1_poseClip 10 = .ok (.ireturn, 1) := dk_172 (dk_at dksX1_poseClip_0 10 rfl rfl)
abbrev cX1_present_2 : ByteArray := prog_1_method_45_code
def yX1_present_2 : MethodName := ⟨RX1, "present", "(I)LAnimationController$Pose;"⟩
def dkwX1_present_2_0 : List UInt8 := [27, 42, 182, 1, 99, 180, 1, 95, 184, 0, 103, 42, 180, 0, 50, 176]
abbrev dktX1_present_2_0 : List UInt8 := dkwX1_present_2_0 ++ []
theorem dksX1_present_2_0 : cX1_present_2.data.toList.drop 0 = dktX1_present_2_0 := by decide +kernel
theorem dX1_present_2_0 : decode cX1_present_2 0 = .ok (.iload_n 1, 1) := dk_27 (dk_at dksX1_present_2_0 0 rfl rfl)
theorem dX1_present_2_1 : decode cX1_present_2 1 = .ok (.aload_n 0, 1) := dk_42 (dk_at dksX1_present_2_0 1 rfl rfl)
theorem dX1_present_2_2 : decode cX1_present_2 2 = .ok (.invokevirtual 355, 3) := dk_182 1 99 (dk_at dksX1_present_2_0 2 rfl rfl)
theorem dX1_present_2_5 : decode cX1_present_2 5 = .ok (.getfield 351, 3) := dk_180 1 95 (dk_at dksX1_present_2_0 5 rfl rfl)
theorem dX1_present_2_8 : decode cX1_present_2 8 = .ok (.invokestatic 103, 3) := dk_184 0 103 (dk_at dksX1_present_2_0 8 rfl rfl)
theorem dX1_present_2_11 : decode cX1_present_2 11 = .ok (.aload_n 0, 1) := dk_42 (dk_at dksX1_present_2_0 11 rfl rfl)
theorem dX1_present_2_12 : decode cX1_present_2 12 = .ok (.getfield 50, 3) := dk_180 0 50 (dk_at dksX1_present_2_0 12 rfl rfl)
theorem dX1_present_2_15 : decode cX1_present_2 15 = .ok (.areturn, 1) := dk_176 (dk_at dksX1_present_2_0 15 rfl rfl)
abbrev cX1_poseTime : ByteArray := prog_1_method_48_code
def yX1_poseTime : MethodName := ⟨RX1, "poseTime", "(I)I"⟩
def dkwX1_poseTime_0 : List UInt8 := [42, 27, 182, 1, 103, 180, 1, 109, 27, 46, 172]
abbrev dktX1_poseTime_0 : List UInt8 := dkwX1_poseTime_0 ++ []
theorem dksX1_poseTime_0 : cX1_poseTime.data.toList.drop 0 = dktX1_poseTime_0 := by decide +kernel
theorem dX1_poseTime_0 : decode cX1_poseTime 0 = .ok (.aload_n 0, 1) := dk_42 (dk_at dksX1_poseTime_0 0 rfl rfl)
theorem dX1_poseTime_1 : decode cX1_poseTime 1 = .ok (.iload_n 1, 1) := dk_27 (dk_at dksX1_poseTime_0 1 rfl rfl)
theorem dX1_poseTime_2 : decode cX1_poseTime 2 = .ok (.invokevirtual 359, 3) := dk_182 1 103 (dk_at dksX1_poseTime_0 2 rfl rfl)
theorem dX1_poseTime_5 : decode cX1_poseTime 5 = .ok (.getfield 365, 3) := dk_180 1 109 (dk_at dksX1_poseTime_0 5 rfl rfl)
theorem dX1_poseTime_8 : decode cX1_poseTime 8 = .ok (.iload_n 1, 1) := dk_27 (dk_at dksX1_poseTime_0 8 rfl rfl)
theorem dX1_poseTime_9 : decode cX1_poseTime 9 = .ok (.iaload, 1) := dk_46 (dk_at dksX1_poseTime_0 9 rfl rfl)
theorem dX1_poseTime_10 : decode cX1_poseTime 10 = .ok (.ireturn, 1) := dk_172 (dk_at dksX1_poseTime_0 10 rfl rfl)
abbrev cX1_poseWeight : ByteArray := prog_1_method_49_code
def yX1_poseWeight : MethodName := ⟨RX1, "poseWeight", "(I)I"⟩
def dkwX1_poseWeight_0 : List UInt8 := [42, 27, 182, 1, 103, 180, 1, 112, 27, 46, 172]
abbrev dktX1_poseWeight_0 : List UInt8 := dkwX1_poseWeight_0 ++ []
theorem dksX1_poseWeight_0 : cX1_poseWeight.data.toList.drop 0 = dktX1_poseWeight_0 := by decide +kernel
theorem dX1_poseWeight_0 : decode cX1_poseWeight 0 = .ok (.aload_n 0, 1) := dk_42 (dk_at dksX1_poseWeight_0 0 rfl rfl)
theorem dX1_poseWeight_1 : decode cX1_poseWeight 1 = .ok (.iload_n 1, 1) := dk_27 (dk_at dksX1_poseWeight_0 1 rfl rfl)
theorem dX1_poseWeight_2 : decode cX1_poseWeight 2 = .ok (.invokevirtual 359, 3) := dk_182 1 103 (dk_at dksX1_poseWeight_0 2 rfl rfl)
theorem dX1_poseWeight_5 : decode cX1_poseWeight 5 = .ok (.getfield 368, 3) := dk_180 1 112 (dk_at dksX1_poseWeight_0 5 rfl rfl)
theorem dX1_poseWeight_8 : decode cX1_poseWeight 8 = .ok (.iload_n 1, 1) := dk_27 (dk_at dksX1_poseWeight_0 8 rfl rfl)
theorem dX1_poseWeight_9 : decode cX1_poseWeight 9 = .ok (.iaload, 1) := dk_46 (dk_at dksX1_poseWeight_0 9 rfl rfl)
theorem dX1_poseWeight_10 : decode cX1_poseWeight 10 = .ok (.ireturn, 1) := dk_172 (dk_at dksX1_poseWeight_0 10 rfl rfl)
abbrev cX1_event : ByteArray := prog_1_method_52_code
def yX1_event : MethodName := ⟨RX1, "event", "(II)I"⟩
def dkwX1_event_1 : List UInt8 := [180, 1, 121, 7, 27, 104, 28, 96, 46, 172]
abbrev dktX1_event_1 : List UInt8 := dkwX1_event_1 ++ []
def dkwX1_event_0 : List UInt8 := [27, 42, 182, 1, 119, 184, 0, 103, 28, 133, 9, 20, 0, 199, 184, 0, 12, 184, 0, 85, 42, 180, 0, 211]
abbrev dktX1_event_0 : List UInt8 := dkwX1_event_0 ++ dktX1_event_1
theorem dksX1_event_0 : cX1_event.data.toList.drop 0 = dktX1_event_0 := by decide +kernel
theorem dksX1_event_1 : cX1_event.data.toList.drop 24 = dktX1_event_1 := dk_seg dksX1_event_0 24 rfl rfl
theorem dX1_event_0 : decode cX1_event 0 = .ok (.iload_n 1, 1) := dk_27 (dk_at dksX1_event_0 0 rfl rfl)
theorem dX1_event_1 : decode cX1_event 1 = .ok (.aload_n 0, 1) := dk_42 (dk_at dksX1_event_0 1 rfl rfl)
theorem dX1_event_2 : decode cX1_event 2 = .ok (.invokevirtual 375, 3) := dk_182 1 119 (dk_at dksX1_event_0 2 rfl rfl)
theorem dX1_event_5 : decode cX1_event 5 = .ok (.invokestatic 103, 3) := dk_184 0 103 (dk_at dksX1_event_0 5 rfl rfl)
theorem dX1_event_8 : decode cX1_event 8 = .ok (.iload_n 2, 1) := dk_28 (dk_at dksX1_event_0 8 rfl rfl)
theorem dX1_event_9 : decode cX1_event 9 = .ok (.i2l, 1) := dk_133 (dk_at dksX1_event_0 9 rfl rfl)
theorem dX1_event_10 : decode cX1_event 10 = .ok (.lconst 0, 1) := dk_9 (dk_at dksX1_event_0 10 rfl rfl)
theorem dX1_event_11 : decode cX1_event 11 = .ok (.ldc2_w 199, 3) := dk_20 0 199 (dk_at dksX1_event_0 11 rfl rfl)
theorem dX1_event_14 : decode cX1_event 14 = .ok (.invokestatic 12, 3) := dk_184 0 12 (dk_at dksX1_event_0 14 rfl rfl)
theorem dX1_event_17 : decode cX1_event 17 = .ok (.invokestatic 85, 3) := dk_184 0 85 (dk_at dksX1_event_0 17 rfl rfl)
theorem dX1_event_20 : decode cX1_event 20 = .ok (.aload_n 0, 1) := dk_42 (dk_at dksX1_event_0 20 rfl rfl)
theorem dX1_event_21 : decode cX1_event 21 = .ok (.getfield 211, 3) := dk_180 0 211 (dk_at dksX1_event_0 21 rfl rfl)
theorem dX1_event_24 : decode cX1_event 24 = .ok (.getfield 377, 3) := dk_180 1 121 (dk_at dksX1_event_1 0 rfl rfl)
theorem dX1_event_27 : decode cX1_event 27 = .ok (.iconst 4, 1) := dk_7 (dk_at dksX1_event_1 3 rfl rfl)
theorem dX1_event_28 : decode cX1_event 28 = .ok (.iload_n 1, 1) := dk_27 (dk_at dksX1_event_1 4 rfl rfl)
theorem dX1_event_29 : decode cX1_event 29 = .ok (.imul, 1) := dk_104 (dk_at dksX1_event_1 5 rfl rfl)
theorem dX1_event_30 : decode cX1_event 30 = .ok (.iload_n 2, 1) := dk_28 (dk_at dksX1_event_1 6 rfl rfl)
theorem dX1_event_31 : decode cX1_event 31 = .ok (.iadd, 1) := dk_96 (dk_at dksX1_event_1 7 rfl rfl)
theorem dX1_event_32 : decode cX1_event 32 = .ok (.iaload, 1) := dk_46 (dk_at dksX1_event_1 8 rfl rfl)
theorem dX1_event_33 : decode cX1_event 33 = .ok (.ireturn, 1) := dk_172 (dk_at dksX1_event_1 9 rfl rfl)
abbrev cX1_logged : ByteArray := prog_1_method_51_code
def yX1_logged : MethodName := ⟨RX1, "logged", "()I"⟩
def dkwX1_logged_0 : List UInt8 := [42, 180, 0, 211, 199, 0, 7, 3, 167, 0, 10, 42, 180, 0, 211, 180, 1, 116, 172]
abbrev dktX1_logged_0 : List UInt8 := dkwX1_logged_0 ++ []
theorem dksX1_logged_0 : cX1_logged.data.toList.drop 0 = dktX1_logged_0 := by decide +kernel
theorem dX1_logged_0 : decode cX1_logged 0 = .ok (.aload_n 0, 1) := dk_42 (dk_at dksX1_logged_0 0 rfl rfl)
theorem dX1_logged_1 : decode cX1_logged 1 = .ok (.getfield 211, 3) := dk_180 0 211 (dk_at dksX1_logged_0 1 rfl rfl)
theorem dX1_logged_4 : decode cX1_logged 4 = .ok (.ifnonnull 7, 3) := dk_199 0 7 (dk_at dksX1_logged_0 4 rfl rfl)
theorem dX1_logged_7 : decode cX1_logged 7 = .ok (.iconst 0, 1) := dk_3 (dk_at dksX1_logged_0 7 rfl rfl)
theorem dX1_logged_8 : decode cX1_logged 8 = .ok (.goto 10, 3) := dk_167 0 10 (dk_at dksX1_logged_0 8 rfl rfl)
theorem dX1_logged_11 : decode cX1_logged 11 = .ok (.aload_n 0, 1) := dk_42 (dk_at dksX1_logged_0 11 rfl rfl)
theorem dX1_logged_12 : decode cX1_logged 12 = .ok (.getfield 211, 3) := dk_180 0 211 (dk_at dksX1_logged_0 12 rfl rfl)
theorem dX1_logged_15 : decode cX1_logged 15 = .ok (.getfield 372, 3) := dk_180 1 116 (dk_at dksX1_logged_0 15 rfl rfl)
theorem dX1_logged_18 : decode cX1_logged 18 = .ok (.ireturn, 1) := dk_172 (dk_at dksX1_logged_0 18 rfl rfl)
abbrev cX1_foretell : ByteArray := prog_1_method_56_code
def yX1_foretell : MethodName := ⟨RX1, "foretell", "(I)I"⟩
def dkwX1_foretell_0 : List UInt8 := [27, 133, 10, 20, 0, 169, 184, 0, 12, 184, 0, 85, 42, 182, 1, 43, 87, 42, 1, 27, 182, 1, 139, 172]
abbrev dktX1_foretell_0 : List UInt8 := dkwX1_foretell_0 ++ []
theorem dksX1_foretell_0 : cX1_foretell.data.toList.drop 0 = dktX1_foretell_0 := by decide +kernel
theorem dX1_foretell_0 : decode cX1_foretell 0 = .ok (.iload_n 1, 1) := dk_27 (dk_at dksX1_foretell_0 0 rfl rfl)
theorem dX1_foretell_1 : decode cX1_foretell 1 = .ok (.i2l, 1) := dk_133 (dk_at dksX1_foretell_0 1 rfl rfl)
theorem dX1_foretell_2 : decode cX1_foretell 2 = .ok (.lconst 1, 1) := dk_10 (dk_at dksX1_foretell_0 2 rfl rfl)
theorem dX1_foretell_3 : decode cX1_foretell 3 = .ok (.ldc2_w 169, 3) := dk_20 0 169 (dk_at dksX1_foretell_0 3 rfl rfl)
theorem dX1_foretell_6 : decode cX1_foretell 6 = .ok (.invokestatic 12, 3) := dk_184 0 12 (dk_at dksX1_foretell_0 6 rfl rfl)
theorem dX1_foretell_9 : decode cX1_foretell 9 = .ok (.invokestatic 85, 3) := dk_184 0 85 (dk_at dksX1_foretell_0 9 rfl rfl)
theorem dX1_foretell_12 : decode cX1_foretell 12 = .ok (.aload_n 0, 1) := dk_42 (dk_at dksX1_foretell_0 12 rfl rfl)
theorem dX1_foretell_13 : decode cX1_foretell 13 = .ok (.invokevirtual 299, 3) := dk_182 1 43 (dk_at dksX1_foretell_0 13 rfl rfl)
theorem dX1_foretell_16 : decode cX1_foretell 16 = .ok (.pop, 1) := dk_87 (dk_at dksX1_foretell_0 16 rfl rfl)
theorem dX1_foretell_17 : decode cX1_foretell 17 = .ok (.aload_n 0, 1) := dk_42 (dk_at dksX1_foretell_0 17 rfl rfl)
theorem dX1_foretell_18 : decode cX1_foretell 18 = .ok (.aconst_null, 1) := dk_1 (dk_at dksX1_foretell_0 18 rfl rfl)
theorem dX1_foretell_19 : decode cX1_foretell 19 = .ok (.iload_n 1, 1) := dk_27 (dk_at dksX1_foretell_0 19 rfl rfl)
theorem dX1_foretell_20 : decode cX1_foretell 20 = .ok (.invokevirtual 395, 3) := dk_182 1 139 (dk_at dksX1_foretell_0 20 rfl rfl)
theorem dX1_foretell_23 : decode cX1_foretell 23 = .ok (.ireturn, 1) := dk_172 (dk_at dksX1_foretell_0 23 rfl rfl)
abbrev cX1_runCopy : ByteArray := prog_1_method_55_code
def yX1_runCopy : MethodName := ⟨RX1, "runCopy", "(LAnimationController$State;I)I"⟩
def dkwX1_runCopy_6 : List UInt8 := [182, 1, 131, 25, 7, 191]
abbrev dktX1_runCopy_6 : List UInt8 := dkwX1_runCopy_6 ++ []
def dkwX1_runCopy_5 : List UInt8 := [45, 181, 0, 211, 42, 25, 4, 182, 1, 131, 21, 5, 172, 58, 7, 42, 45, 181, 0, 211, 42, 25, 4]
abbrev dktX1_runCopy_5 : List UInt8 := dkwX1_runCopy_5 ++ dktX1_runCopy_6
def dkwX1_runCopy_4 : List UInt8 := [167, 255, 187, 43, 199, 0, 16, 42, 180, 0, 211, 182, 1, 135, 180, 0, 215, 167, 0, 4, 2, 54, 5, 42]
abbrev dktX1_runCopy_4 : List UInt8 := dkwX1_runCopy_4 ++ dktX1_runCopy_5
def dkwX1_runCopy_3 : List UInt8 := [182, 1, 131, 21, 6, 172, 21, 5, 28, 162, 0, 11, 42, 180, 0, 211, 182, 1, 47, 87, 132, 5, 1]
abbrev dktX1_runCopy_3 : List UInt8 := dkwX1_runCopy_3 ++ dktX1_runCopy_4
def dkwX1_runCopy_2 : List UInt8 := [180, 1, 53, 180, 1, 57, 43, 166, 0, 21, 21, 5, 54, 6, 42, 45, 181, 0, 211, 42, 25, 4]
abbrev dktX1_runCopy_2 : List UInt8 := dkwX1_runCopy_2 ++ dktX1_runCopy_3
def dkwX1_runCopy_1 : List UInt8 := [28, 163, 0, 69, 43, 198, 0, 45, 42, 180, 0, 211, 182, 1, 62, 153, 0, 35, 42, 180, 0, 211]
abbrev dktX1_runCopy_1 : List UInt8 := dkwX1_runCopy_1 ++ dktX1_runCopy_2
def dkwX1_runCopy_0 : List UInt8 := [42, 180, 0, 211, 78, 42, 182, 1, 124, 58, 4, 42, 45, 182, 1, 128, 181, 0, 211, 3, 54, 5, 21, 5]
abbrev dktX1_runCopy_0 : List UInt8 := dkwX1_runCopy_0 ++ dktX1_runCopy_1
theorem dksX1_runCopy_0 : cX1_runCopy.data.toList.drop 0 = dktX1_runCopy_0 := by decide +kernel
theorem dksX1_runCopy_1 : cX1_runCopy.data.toList.drop 24 = dktX1_runCopy_1 := dk_seg dksX1_runCopy_0 24 rfl rfl
theorem dksX1_runCopy_2 : cX1_runCopy.data.toList.drop 46 = dktX1_runCopy_2 := dk_seg dksX1_runCopy_1 22 rfl rfl
theorem dksX1_runCopy_3 : cX1_runCopy.data.toList.drop 68 = dktX1_runCopy_3 := dk_seg dksX1_runCopy_2 22 rfl rfl
theorem dksX1_runCopy_4 : cX1_runCopy.data.toList.drop 91 = dktX1_runCopy_4 := dk_seg dksX1_runCopy_3 23 rfl rfl
theorem dksX1_runCopy_5 : cX1_runCopy.data.toList.drop 115 = dktX1_runCopy_5 := dk_seg dksX1_runCopy_4 24 rfl rfl
theorem dksX1_runCopy_6 : cX1_runCopy.data.toList.drop 138 = dktX1_runCopy_6 := dk_seg dksX1_runCopy_5 23 rfl rfl
theorem dX1_runCopy_0 : decode cX1_runCopy 0 = .ok (.aload_n 0, 1) := dk_42 (dk_at dksX1_runCopy_0 0 rfl rfl)
theorem dX1_runCopy_1 : decode cX1_runCopy 1 = .ok (.getfield 211, 3) := dk_180 0 211 (dk_at dksX1_runCopy_0 1 rfl rfl)
theorem dX1_runCopy_4 : decode cX1_runCopy 4 = .ok (.astore_n 3, 1) := dk_78 (dk_at dksX1_runCopy_0 4 rfl rfl)
theorem dX1_runCopy_5 : decode cX1_runCopy 5 = .ok (.aload_n 0, 1) := dk_42 (dk_at dksX1_runCopy_0 5 rfl rfl)
theorem dX1_runCopy_6 : decode cX1_runCopy 6 = .ok (.invokevirtual 380, 3) := dk_182 1 124 (dk_at dksX1_runCopy_0 6 rfl rfl)
theorem dX1_runCopy_9 : decode cX1_runCopy 9 = .ok (.astore 4, 2) := dk_58 4 (dk_at dksX1_runCopy_0 9 rfl rfl)
theorem dX1_runCopy_11 : decode cX1_runCopy 11 = .ok (.aload_n 0, 1) := dk_42 (dk_at dksX1_runCopy_0 11 rfl rfl)
theorem dX1_runCopy_12 : decode cX1_runCopy 12 = .ok (.aload_n 3, 1) := dk_45 (dk_at dksX1_runCopy_0 12 rfl rfl)
theorem dX1_runCopy_13 : decode cX1_runCopy 13 = .ok (.invokevirtual 384, 3) := dk_182 1 128 (dk_at dksX1_runCopy_0 13 rfl rfl)
theorem dX1_runCopy_16 : decode cX1_runCopy 16 = .ok (.putfield 211, 3) := dk_181 0 211 (dk_at dksX1_runCopy_0 16 rfl rfl)
theorem dX1_runCopy_19 : decode cX1_runCopy 19 = .ok (.iconst 0, 1) := dk_3 (dk_at dksX1_runCopy_0 19 rfl rfl)
theorem dX1_runCopy_20 : decode cX1_runCopy 20 = .ok (.istore 5, 2) := dk_54 5 (dk_at dksX1_runCopy_0 20 rfl rfl)
theorem dX1_runCopy_22 : decode cX1_runCopy 22 = .ok (.iload 5, 2) := dk_21 5 (dk_at dksX1_runCopy_0 22 rfl rfl)
theorem dX1_runCopy_24 : decode cX1_runCopy 24 = .ok (.iload_n 2, 1) := dk_28 (dk_at dksX1_runCopy_1 0 rfl rfl)
theorem dX1_runCopy_25 : decode cX1_runCopy 25 = .ok (.if_icmp .gt 69, 3) := dk_163 0 69 (dk_at dksX1_runCopy_1 1 rfl rfl)
theorem dX1_runCopy_28 : decode cX1_runCopy 28 = .ok (.aload_n 1, 1) := dk_43 (dk_at dksX1_runCopy_1 4 rfl rfl)
theorem dX1_runCopy_29 : decode cX1_runCopy 29 = .ok (.ifnull 45, 3) := dk_198 0 45 (dk_at dksX1_runCopy_1 5 rfl rfl)
theorem dX1_runCopy_32 : decode cX1_runCopy 32 = .ok (.aload_n 0, 1) := dk_42 (dk_at dksX1_runCopy_1 8 rfl rfl)
theorem dX1_runCopy_33 : decode cX1_runCopy 33 = .ok (.getfield 211, 3) := dk_180 0 211 (dk_at dksX1_runCopy_1 9 rfl rfl)
theorem dX1_runCopy_36 : decode cX1_runCopy 36 = .ok (.invokevirtual 318, 3) := dk_182 1 62 (dk_at dksX1_runCopy_1 12 rfl rfl)
theorem dX1_runCopy_39 : decode cX1_runCopy 39 = .ok (.ifCond .eq 35, 3) := dk_153 0 35 (dk_at dksX1_runCopy_1 15 rfl rfl)
theorem dX1_runCopy_42 : decode cX1_runCopy 42 = .ok (.aload_n 0, 1) := dk_42 (dk_at dksX1_runCopy_1 18 rfl rfl)
theorem dX1_runCopy_43 : decode cX1_runCopy 43 = .ok (.getfield 211, 3) := dk_180 0 211 (dk_at dksX1_runCopy_1 19 rfl rfl)
theorem dX1_runCopy_46 : decode cX1_runCopy 46 = .ok (.getfield 309, 3) := dk_180 1 53 (dk_at dksX1_runCopy_2 0 rfl rfl)
theorem dX1_runCopy_49 : decode cX1_runCopy 49 = .ok (.getfield 313, 3) := dk_180 1 57 (dk_at dksX1_runCopy_2 3 rfl rfl)
theorem dX1_runCopy_52 : decode cX1_runCopy 52 = .ok (.aload_n 1, 1) := dk_43 (dk_at dksX1_runCopy_2 6 rfl rfl)
theorem dX1_runCopy_53 : decode cX1_runCopy 53 = .ok (.if_acmp .ne 21, 3) := dk_166 0 21 (dk_at dksX1_runCopy_2 7 rfl rfl)
theorem dX1_runCopy_56 : decode cX1_runCopy 56 = .ok (.iload 5, 2) := dk_21 5 (dk_at dksX1_runCopy_2 10 rfl rfl)
theorem dX1_runCopy_58 : decode cX1_runCopy 58 = .ok (.istore 6, 2) := dk_54 6 (dk_at dksX1_runCopy_2 12 rfl rfl)
theorem dX1_runCopy_60 : decode cX1_runCopy 60 = .ok (.aload_n 0, 1) := dk_42 (dk_at dksX1_runCopy_2 14 rfl rfl)
theorem dX1_runCopy_61 : decode cX1_runCopy 61 = .ok (.aload_n 3, 1) := dk_45 (dk_at dksX1_runCopy_2 15 rfl rfl)
theorem dX1_runCopy_62 : decode cX1_runCopy 62 = .ok (.putfield 211, 3) := dk_181 0 211 (dk_at dksX1_runCopy_2 16 rfl rfl)
theorem dX1_runCopy_65 : decode cX1_runCopy 65 = .ok (.aload_n 0, 1) := dk_42 (dk_at dksX1_runCopy_2 19 rfl rfl)
theorem dX1_runCopy_66 : decode cX1_runCopy 66 = .ok (.aload 4, 2) := dk_25 4 (dk_at dksX1_runCopy_2 20 rfl rfl)
theorem dX1_runCopy_68 : decode cX1_runCopy 68 = .ok (.invokevirtual 387, 3) := dk_182 1 131 (dk_at dksX1_runCopy_3 0 rfl rfl)
theorem dX1_runCopy_71 : decode cX1_runCopy 71 = .ok (.iload 6, 2) := dk_21 6 (dk_at dksX1_runCopy_3 3 rfl rfl)
theorem dX1_runCopy_73 : decode cX1_runCopy 73 = .ok (.ireturn, 1) := dk_172 (dk_at dksX1_runCopy_3 5 rfl rfl)
theorem dX1_runCopy_74 : decode cX1_runCopy 74 = .ok (.iload 5, 2) := dk_21 5 (dk_at dksX1_runCopy_3 6 rfl rfl)
theorem dX1_runCopy_76 : decode cX1_runCopy 76 = .ok (.iload_n 2, 1) := dk_28 (dk_at dksX1_runCopy_3 8 rfl rfl)
theorem dX1_runCopy_77 : decode cX1_runCopy 77 = .ok (.if_icmp .ge 11, 3) := dk_162 0 11 (dk_at dksX1_runCopy_3 9 rfl rfl)
theorem dX1_runCopy_80 : decode cX1_runCopy 80 = .ok (.aload_n 0, 1) := dk_42 (dk_at dksX1_runCopy_3 12 rfl rfl)
theorem dX1_runCopy_81 : decode cX1_runCopy 81 = .ok (.getfield 211, 3) := dk_180 0 211 (dk_at dksX1_runCopy_3 13 rfl rfl)
theorem dX1_runCopy_84 : decode cX1_runCopy 84 = .ok (.invokevirtual 303, 3) := dk_182 1 47 (dk_at dksX1_runCopy_3 16 rfl rfl)
theorem dX1_runCopy_87 : decode cX1_runCopy 87 = .ok (.pop, 1) := dk_87 (dk_at dksX1_runCopy_3 19 rfl rfl)
theorem dX1_runCopy_88 : decode cX1_runCopy 88 = .ok (.iinc 5 1, 3) := dk_132 5 1 (dk_at dksX1_runCopy_3 20 rfl rfl)
theorem dX1_runCopy_91 : decode cX1_runCopy 91 = .ok (.goto (-69), 3) := dk_167 255 187 (dk_at dksX1_runCopy_4 0 rfl rfl)
theorem dX1_runCopy_94 : decode cX1_runCopy 94 = .ok (.aload_n 1, 1) := dk_43 (dk_at dksX1_runCopy_4 3 rfl rfl)
theorem dX1_runCopy_95 : decode cX1_runCopy 95 = .ok (.ifnonnull 16, 3) := dk_199 0 16 (dk_at dksX1_runCopy_4 4 rfl rfl)
theorem dX1_runCopy_98 : decode cX1_runCopy 98 = .ok (.aload_n 0, 1) := dk_42 (dk_at dksX1_runCopy_4 7 rfl rfl)
theorem dX1_runCopy_99 : decode cX1_runCopy 99 = .ok (.getfield 211, 3) := dk_180 0 211 (dk_at dksX1_runCopy_4 8 rfl rfl)
theorem dX1_runCopy_102 : decode cX1_runCopy 102 = .ok (.invokevirtual 391, 3) := dk_182 1 135 (dk_at dksX1_runCopy_4 11 rfl rfl)
theorem dX1_runCopy_105 : decode cX1_runCopy 105 = .ok (.getfield 215, 3) := dk_180 0 215 (dk_at dksX1_runCopy_4 14 rfl rfl)
theorem dX1_runCopy_108 : decode cX1_runCopy 108 = .ok (.goto 4, 3) := dk_167 0 4 (dk_at dksX1_runCopy_4 17 rfl rfl)
theorem dX1_runCopy_111 : decode cX1_runCopy 111 = .ok (.iconst (-1), 1) := dk_2 (dk_at dksX1_runCopy_4 20 rfl rfl)
theorem dX1_runCopy_112 : decode cX1_runCopy 112 = .ok (.istore 5, 2) := dk_54 5 (dk_at dksX1_runCopy_4 21 rfl rfl)
theorem dX1_runCopy_114 : decode cX1_runCopy 114 = .ok (.aload_n 0, 1) := dk_42 (dk_at dksX1_runCopy_4 23 rfl rfl)
theorem dX1_runCopy_115 : decode cX1_runCopy 115 = .ok (.aload_n 3, 1) := dk_45 (dk_at dksX1_runCopy_5 0 rfl rfl)
theorem dX1_runCopy_116 : decode cX1_runCopy 116 = .ok (.putfield 211, 3) := dk_181 0 211 (dk_at dksX1_runCopy_5 1 rfl rfl)
theorem dX1_runCopy_119 : decode cX1_runCopy 119 = .ok (.aload_n 0, 1) := dk_42 (dk_at dksX1_runCopy_5 4 rfl rfl)
theorem dX1_runCopy_120 : decode cX1_runCopy 120 = .ok (.aload 4, 2) := dk_25 4 (dk_at dksX1_runCopy_5 5 rfl rfl)
theorem dX1_runCopy_122 : decode cX1_runCopy 122 = .ok (.invokevirtual 387, 3) := dk_182 1 131 (dk_at dksX1_runCopy_5 7 rfl rfl)
theorem dX1_runCopy_125 : decode cX1_runCopy 125 = .ok (.iload 5, 2) := dk_21 5 (dk_at dksX1_runCopy_5 10 rfl rfl)
theorem dX1_runCopy_127 : decode cX1_runCopy 127 = .ok (.ireturn, 1) := dk_172 (dk_at dksX1_runCopy_5 12 rfl rfl)
theorem dX1_runCopy_128 : decode cX1_runCopy 128 = .ok (.astore 7, 2) := dk_58 7 (dk_at dksX1_runCopy_5 13 rfl rfl)
theorem dX1_runCopy_130 : decode cX1_runCopy 130 = .ok (.aload_n 0, 1) := dk_42 (dk_at dksX1_runCopy_5 15 rfl rfl)
theorem dX1_runCopy_131 : decode cX1_runCopy 131 = .ok (.aload_n 3, 1) := dk_45 (dk_at dksX1_runCopy_5 16 rfl rfl)
theorem dX1_runCopy_132 : decode cX1_runCopy 132 = .ok (.putfield 211, 3) := dk_181 0 211 (dk_at dksX1_runCopy_5 17 rfl rfl)
theorem dX1_runCopy_135 : decode cX1_runCopy 135 = .ok (.aload_n 0, 1) := dk_42 (dk_at dksX1_runCopy_5 20 rfl rfl)
theorem dX1_runCopy_136 : decode cX1_runCopy 136 = .ok (.aload 4, 2) := dk_25 4 (dk_at dksX1_runCopy_5 21 rfl rfl)
theorem dX1_runCopy_138 : decode cX1_runCopy 138 = .ok (.invokevirtual 387, 3) := dk_182 1 131 (dk_at dksX1_runCopy_6 0 rfl rfl)
theorem dX1_runCopy_141 : decode cX1_runCopy 141 = .ok (.aload 7, 2) := dk_25 7 (dk_at dksX1_runCopy_6 3 rfl rfl)
theorem dX1_runCopy_143 : decode cX1_runCopy 143 = .ok (.athrow, 1) := dk_191 (dk_at dksX1_runCopy_6 5 rfl rfl)
abbrev cX1_values : ByteArray := prog_1_method_53_code
def yX1_values : MethodName := ⟨RX1, "values", "()[I"⟩
def dkwX1_values_1 : List UInt8 := [28, 182, 0, 107, 192, 0, 96, 180, 0, 119, 79, 132, 2, 1, 167, 255, 230, 43, 176]
abbrev dktX1_values_1 : List UInt8 := dkwX1_values_1 ++ []
def dkwX1_values_0 : List UInt8 := [42, 180, 0, 27, 182, 0, 89, 188, 10, 76, 3, 61, 28, 43, 190, 162, 0, 26, 43, 28, 42, 180, 0, 27]
abbrev dktX1_values_0 : List UInt8 := dkwX1_values_0 ++ dktX1_values_1
theorem dksX1_values_0 : cX1_values.data.toList.drop 0 = dktX1_values_0 := by decide +kernel
theorem dksX1_values_1 : cX1_values.data.toList.drop 24 = dktX1_values_1 := dk_seg dksX1_values_0 24 rfl rfl
theorem dX1_values_0 : decode cX1_values 0 = .ok (.aload_n 0, 1) := dk_42 (dk_at dksX1_values_0 0 rfl rfl)
theorem dX1_values_1 : decode cX1_values 1 = .ok (.getfield 27, 3) := dk_180 0 27 (dk_at dksX1_values_0 1 rfl rfl)
theorem dX1_values_4 : decode cX1_values 4 = .ok (.invokevirtual 89, 3) := dk_182 0 89 (dk_at dksX1_values_0 4 rfl rfl)
theorem dX1_values_7 : decode cX1_values 7 = .ok (.newarray .int, 2) := dk_188_10 (dk_at dksX1_values_0 7 rfl rfl)
theorem dX1_values_9 : decode cX1_values 9 = .ok (.astore_n 1, 1) := dk_76 (dk_at dksX1_values_0 9 rfl rfl)
theorem dX1_values_10 : decode cX1_values 10 = .ok (.iconst 0, 1) := dk_3 (dk_at dksX1_values_0 10 rfl rfl)
theorem dX1_values_11 : decode cX1_values 11 = .ok (.istore_n 2, 1) := dk_61 (dk_at dksX1_values_0 11 rfl rfl)
theorem dX1_values_12 : decode cX1_values 12 = .ok (.iload_n 2, 1) := dk_28 (dk_at dksX1_values_0 12 rfl rfl)
theorem dX1_values_13 : decode cX1_values 13 = .ok (.aload_n 1, 1) := dk_43 (dk_at dksX1_values_0 13 rfl rfl)
theorem dX1_values_14 : decode cX1_values 14 = .ok (.arraylength, 1) := dk_190 (dk_at dksX1_values_0 14 rfl rfl)
theorem dX1_values_15 : decode cX1_values 15 = .ok (.if_icmp .ge 26, 3) := dk_162 0 26 (dk_at dksX1_values_0 15 rfl rfl)
theorem dX1_values_18 : decode cX1_values 18 = .ok (.aload_n 1, 1) := dk_43 (dk_at dksX1_values_0 18 rfl rfl)
theorem dX1_values_19 : decode cX1_values 19 = .ok (.iload_n 2, 1) := dk_28 (dk_at dksX1_values_0 19 rfl rfl)
theorem dX1_values_20 : decode cX1_values 20 = .ok (.aload_n 0, 1) := dk_42 (dk_at dksX1_values_0 20 rfl rfl)
theorem dX1_values_21 : decode cX1_values 21 = .ok (.getfield 27, 3) := dk_180 0 27 (dk_at dksX1_values_0 21 rfl rfl)
theorem dX1_values_24 : decode cX1_values 24 = .ok (.iload_n 2, 1) := dk_28 (dk_at dksX1_values_1 0 rfl rfl)
theorem dX1_values_25 : decode cX1_values 25 = .ok (.invokevirtual 107, 3) := dk_182 0 107 (dk_at dksX1_values_1 1 rfl rfl)
theorem dX1_values_28 : decode cX1_values 28 = .ok (.checkcast 96, 3) := dk_192 0 96 (dk_at dksX1_values_1 4 rfl rfl)
theorem dX1_values_31 : decode cX1_values 31 = .ok (.getfield 119, 3) := dk_180 0 119 (dk_at dksX1_values_1 7 rfl rfl)
theorem dX1_values_34 : decode cX1_values 34 = .ok (.iastore, 1) := dk_79 (dk_at dksX1_values_1 10 rfl rfl)
theorem dX1_values_35 : decode cX1_values 35 = .ok (.iinc 2 1, 3) := dk_132 2 1 (dk_at dksX1_values_1 11 rfl rfl)
theorem dX1_values_38 : decode cX1_values 38 = .ok (.goto (-26), 3) := dk_167 255 230 (dk_at dksX1_values_1 14 rfl rfl)
theorem dX1_values_41 : decode cX1_values 41 = .ok (.aload_n 1, 1) := dk_43 (dk_at dksX1_values_1 17 rfl rfl)
theorem dX1_values_42 : decode cX1_values 42 = .ok (.areturn, 1) := dk_176 (dk_at dksX1_values_1 18 rfl rfl)
abbrev cX1_setValues : ByteArray := prog_1_method_54_code
def yX1_setValues : MethodName := ⟨RX1, "setValues", "([I)V"⟩
def dkwX1_setValues_1 : List UInt8 := [28, 43, 190, 162, 0, 9, 43, 28, 46, 167, 0, 4, 3, 181, 0, 119, 132, 2, 1, 167, 255, 215, 177]
abbrev dktX1_setValues_1 : List UInt8 := dkwX1_setValues_1 ++ []
def dkwX1_setValues_0 : List UInt8 := [3, 61, 28, 42, 180, 0, 27, 182, 0, 89, 162, 0, 36, 42, 180, 0, 27, 28, 182, 0, 107, 192, 0, 96]
abbrev dktX1_setValues_0 : List UInt8 := dkwX1_setValues_0 ++ dktX1_setValues_1
theorem dksX1_setValues_0 : cX1_setValues.data.toList.drop 0 = dktX1_setValues_0 := by decide +kernel
theorem dksX1_setValues_1 : cX1_setValues.data.toList.drop 24 = dktX1_setValues_1 := dk_seg dksX1_setValues_0 24 rfl rfl
theorem dX1_setValues_0 : decode cX1_setValues 0 = .ok (.iconst 0, 1) := dk_3 (dk_at dksX1_setValues_0 0 rfl rfl)
theorem dX1_setValues_1 : decode cX1_setValues 1 = .ok (.istore_n 2, 1) := dk_61 (dk_at dksX1_setValues_0 1 rfl rfl)
theorem dX1_setValues_2 : decode cX1_setValues 2 = .ok (.iload_n 2, 1) := dk_28 (dk_at dksX1_setValues_0 2 rfl rfl)
theorem dX1_setValues_3 : decode cX1_setValues 3 = .ok (.aload_n 0, 1) := dk_42 (dk_at dksX1_setValues_0 3 rfl rfl)
theorem dX1_setValues_4 : decode cX1_setValues 4 = .ok (.getfield 27, 3) := dk_180 0 27 (dk_at dksX1_setValues_0 4 rfl rfl)
theorem dX1_setValues_7 : decode cX1_setValues 7 = .ok (.invokevirtual 89, 3) := dk_182 0 89 (dk_at dksX1_setValues_0 7 rfl rfl)
theorem dX1_setValues_10 : decode cX1_setValues 10 = .ok (.if_icmp .ge 36, 3) := dk_162 0 36 (dk_at dksX1_setValues_0 10 rfl rfl)
theorem dX1_setValues_13 : decode cX1_setValues 13 = .ok (.aload_n 0, 1) := dk_42 (dk_at dksX1_setValues_0 13 rfl rfl)
theorem dX1_setValues_14 : decode cX1_setValues 14 = .ok (.getfield 27, 3) := dk_180 0 27 (dk_at dksX1_setValues_0 14 rfl rfl)
theorem dX1_setValues_17 : decode cX1_setValues 17 = .ok (.iload_n 2, 1) := dk_28 (dk_at dksX1_setValues_0 17 rfl rfl)
theorem dX1_setValues_18 : decode cX1_setValues 18 = .ok (.invokevirtual 107, 3) := dk_182 0 107 (dk_at dksX1_setValues_0 18 rfl rfl)
theorem dX1_setValues_21 : decode cX1_setValues 21 = .ok (.checkcast 96, 3) := dk_192 0 96 (dk_at dksX1_setValues_0 21 rfl rfl)
theorem dX1_setValues_24 : decode cX1_setValues 24 = .ok (.iload_n 2, 1) := dk_28 (dk_at dksX1_setValues_1 0 rfl rfl)
theorem dX1_setValues_25 : decode cX1_setValues 25 = .ok (.aload_n 1, 1) := dk_43 (dk_at dksX1_setValues_1 1 rfl rfl)
theorem dX1_setValues_26 : decode cX1_setValues 26 = .ok (.arraylength, 1) := dk_190 (dk_at dksX1_setValues_1 2 rfl rfl)
theorem dX1_setValues_27 : decode cX1_setValues 27 = .ok (.if_icmp .ge 9, 3) := dk_162 0 9 (dk_at dksX1_setValues_1 3 rfl rfl)
theorem dX1_setValues_30 : decode cX1_setValues 30 = .ok (.aload_n 1, 1) := dk_43 (dk_at dksX1_setValues_1 6 rfl rfl)
theorem dX1_setValues_31 : decode cX1_setValues 31 = .ok (.iload_n 2, 1) := dk_28 (dk_at dksX1_setValues_1 7 rfl rfl)
theorem dX1_setValues_32 : decode cX1_setValues 32 = .ok (.iaload, 1) := dk_46 (dk_at dksX1_setValues_1 8 rfl rfl)
theorem dX1_setValues_33 : decode cX1_setValues 33 = .ok (.goto 4, 3) := dk_167 0 4 (dk_at dksX1_setValues_1 9 rfl rfl)
theorem dX1_setValues_36 : decode cX1_setValues 36 = .ok (.iconst 0, 1) := dk_3 (dk_at dksX1_setValues_1 12 rfl rfl)
theorem dX1_setValues_37 : decode cX1_setValues 37 = .ok (.putfield 119, 3) := dk_181 0 119 (dk_at dksX1_setValues_1 13 rfl rfl)
theorem dX1_setValues_40 : decode cX1_setValues 40 = .ok (.iinc 2 1, 3) := dk_132 2 1 (dk_at dksX1_setValues_1 16 rfl rfl)
theorem dX1_setValues_43 : decode cX1_setValues 43 = .ok (.goto (-41), 3) := dk_167 255 215 (dk_at dksX1_setValues_1 19 rfl rfl)
theorem dX1_setValues_46 : decode cX1_setValues 46 = .ok (.return_, 1) := dk_177 (dk_at dksX1_setValues_1 22 rfl rfl)
abbrev cX1_ticksTo : ByteArray := prog_1_method_57_code
def yX1_ticksTo : MethodName := ⟨RX1, "ticksTo", "(I)I"⟩
def dkwX1_ticksTo_0 : List UInt8 := [42, 42, 27, 182, 0, 218, 16, 100, 182, 1, 139, 172]
abbrev dktX1_ticksTo_0 : List UInt8 := dkwX1_ticksTo_0 ++ []
theorem dksX1_ticksTo_0 : cX1_ticksTo.data.toList.drop 0 = dktX1_ticksTo_0 := by decide +kernel
theorem dX1_ticksTo_0 : decode cX1_ticksTo 0 = .ok (.aload_n 0, 1) := dk_42 (dk_at dksX1_ticksTo_0 0 rfl rfl)
theorem dX1_ticksTo_1 : decode cX1_ticksTo 1 = .ok (.aload_n 0, 1) := dk_42 (dk_at dksX1_ticksTo_0 1 rfl rfl)
theorem dX1_ticksTo_2 : decode cX1_ticksTo 2 = .ok (.iload_n 1, 1) := dk_27 (dk_at dksX1_ticksTo_0 2 rfl rfl)
theorem dX1_ticksTo_3 : decode cX1_ticksTo 3 = .ok (.invokevirtual 218, 3) := dk_182 0 218 (dk_at dksX1_ticksTo_0 3 rfl rfl)
theorem dX1_ticksTo_6 : decode cX1_ticksTo 6 = .ok (.bipush 100, 2) := dk_16 100 (dk_at dksX1_ticksTo_0 6 rfl rfl)
theorem dX1_ticksTo_8 : decode cX1_ticksTo 8 = .ok (.invokevirtual 395, 3) := dk_182 1 139 (dk_at dksX1_ticksTo_0 8 rfl rfl)
theorem dX1_ticksTo_11 : decode cX1_ticksTo 11 = .ok (.ireturn, 1) := dk_172 (dk_at dksX1_ticksTo_0 11 rfl rfl)
abbrev cX1_steps : ByteArray := prog_1_method_58_code
def yX1_steps : MethodName := ⟨RX1, "steps", "(II)I"⟩
def dkwX1_steps_11 : List UInt8 := [167, 0, 4, 2, 172]
abbrev dktX1_steps_11 : List UInt8 := dkwX1_steps_11 ++ []
def dkwX1_steps_10 : List UInt8 := [28, 184, 1, 149, 182, 1, 166, 153, 0, 20, 45, 28, 184, 1, 149, 182, 1, 179, 192, 1, 150, 182, 1, 173]
abbrev dktX1_steps_10 : List UInt8 := dkwX1_steps_10 ++ dktX1_steps_11
def dkwX1_steps_9 : List UInt8 := [25, 7, 180, 1, 176, 180, 0, 215, 184, 1, 149, 182, 1, 159, 132, 6, 1, 167, 255, 124, 167, 255, 86, 45]
abbrev dktX1_steps_9 : List UInt8 := dkwX1_steps_9 ++ dktX1_steps_10
def dkwX1_steps_8 : List UInt8 := [184, 1, 149, 182, 1, 179, 192, 1, 150, 182, 1, 173, 4, 96, 184, 1, 149, 182, 1, 155, 87, 25, 4]
abbrev dktX1_steps_8 : List UInt8 := dkwX1_steps_8 ++ dktX1_steps_9
def dkwX1_steps_7 : List UInt8 := [184, 1, 149, 182, 1, 166, 154, 0, 55, 45, 25, 7, 180, 1, 176, 180, 0, 215, 184, 1, 149, 45, 21, 5]
abbrev dktX1_steps_7 : List UInt8 := dkwX1_steps_7 ++ dktX1_steps_8
def dkwX1_steps_6 : List UInt8 := [160, 0, 7, 4, 167, 0, 4, 3, 54, 8, 21, 8, 153, 0, 73, 45, 25, 7, 180, 1, 176, 180, 0, 215]
abbrev dktX1_steps_6 : List UInt8 := dkwX1_steps_6 ++ dktX1_steps_7
def dkwX1_steps_5 : List UInt8 := [192, 0, 224, 58, 7, 25, 7, 180, 0, 241, 198, 0, 16, 25, 7, 180, 0, 241, 180, 0, 215, 21, 5]
abbrev dktX1_steps_5 : List UInt8 := dkwX1_steps_5 ++ dktX1_steps_6
def dkwX1_steps_4 : List UInt8 := [3, 54, 6, 21, 6, 42, 180, 0, 40, 182, 0, 89, 162, 0, 126, 42, 180, 0, 40, 21, 6, 182, 0, 107]
abbrev dktX1_steps_4 : List UInt8 := dkwX1_steps_4 ++ dktX1_steps_5
def dkwX1_steps_3 : List UInt8 := [45, 28, 184, 1, 149, 182, 1, 166, 154, 0, 157, 25, 4, 182, 1, 169, 192, 1, 150, 182, 1, 173, 54, 5]
abbrev dktX1_steps_3 : List UInt8 := dkwX1_steps_3 ++ dktX1_steps_4
def dkwX1_steps_2 : List UInt8 := [184, 1, 149, 182, 1, 155, 87, 25, 4, 27, 184, 1, 149, 182, 1, 159, 25, 4, 182, 1, 163, 154, 0, 168]
abbrev dktX1_steps_2 : List UInt8 := dkwX1_steps_2 ++ dktX1_steps_3
def dkwX1_steps_1 : List UInt8 := [187, 1, 143, 89, 183, 1, 145, 78, 187, 1, 146, 89, 183, 1, 148, 58, 4, 45, 27, 184, 1, 149, 3]
abbrev dktX1_steps_1 : List UInt8 := dkwX1_steps_1 ++ dktX1_steps_2
def dkwX1_steps_0 : List UInt8 := [27, 42, 180, 0, 37, 182, 0, 89, 184, 0, 103, 28, 42, 180, 0, 37, 182, 0, 89, 184, 0, 103]
abbrev dktX1_steps_0 : List UInt8 := dkwX1_steps_0 ++ dktX1_steps_1
theorem dksX1_steps_0 : cX1_steps.data.toList.drop 0 = dktX1_steps_0 := by decide +kernel
theorem dksX1_steps_1 : cX1_steps.data.toList.drop 22 = dktX1_steps_1 := dk_seg dksX1_steps_0 22 rfl rfl
theorem dksX1_steps_2 : cX1_steps.data.toList.drop 45 = dktX1_steps_2 := dk_seg dksX1_steps_1 23 rfl rfl
theorem dksX1_steps_3 : cX1_steps.data.toList.drop 69 = dktX1_steps_3 := dk_seg dksX1_steps_2 24 rfl rfl
theorem dksX1_steps_4 : cX1_steps.data.toList.drop 93 = dktX1_steps_4 := dk_seg dksX1_steps_3 24 rfl rfl
theorem dksX1_steps_5 : cX1_steps.data.toList.drop 117 = dktX1_steps_5 := dk_seg dksX1_steps_4 24 rfl rfl
theorem dksX1_steps_6 : cX1_steps.data.toList.drop 140 = dktX1_steps_6 := dk_seg dksX1_steps_5 23 rfl rfl
theorem dksX1_steps_7 : cX1_steps.data.toList.drop 164 = dktX1_steps_7 := dk_seg dksX1_steps_6 24 rfl rfl
theorem dksX1_steps_8 : cX1_steps.data.toList.drop 188 = dktX1_steps_8 := dk_seg dksX1_steps_7 24 rfl rfl
theorem dksX1_steps_9 : cX1_steps.data.toList.drop 211 = dktX1_steps_9 := dk_seg dksX1_steps_8 23 rfl rfl
theorem dksX1_steps_10 : cX1_steps.data.toList.drop 235 = dktX1_steps_10 := dk_seg dksX1_steps_9 24 rfl rfl
theorem dksX1_steps_11 : cX1_steps.data.toList.drop 259 = dktX1_steps_11 := dk_seg dksX1_steps_10 24 rfl rfl
theorem dX1_steps_0 : decode cX1_steps 0 = .ok (.iload_n 1, 1) := dk_27 (dk_at dksX1_steps_0 0 rfl rfl)
theorem dX1_steps_1 : decode cX1_steps 1 = .ok (.aload_n 0, 1) := dk_42 (dk_at dksX1_steps_0 1 rfl rfl)
theorem dX1_steps_2 : decode cX1_steps 2 = .ok (.getfield 37, 3) := dk_180 0 37 (dk_at dksX1_steps_0 2 rfl rfl)
theorem dX1_steps_5 : decode cX1_steps 5 = .ok (.invokevirtual 89, 3) := dk_182 0 89 (dk_at dksX1_steps_0 5 rfl rfl)
theorem dX1_steps_8 : decode cX1_steps 8 = .ok (.invokestatic 103, 3) := dk_184 0 103 (dk_at dksX1_steps_0 8 rfl rfl)
theorem dX1_steps_11 : decode cX1_steps 11 = .ok (.iload_n 2, 1) := dk_28 (dk_at dksX1_steps_0 11 rfl rfl)
theorem dX1_steps_12 : decode cX1_steps 12 = .ok (.aload_n 0, 1) := dk_42 (dk_at dksX1_steps_0 12 rfl rfl)
theorem dX1_steps_13 : decode cX1_steps 13 = .ok (.getfield 37, 3) := dk_180 0 37 (dk_at dksX1_steps_0 13 rfl rfl)
theorem dX1_steps_16 : decode cX1_steps 16 = .ok (.invokevirtual 89, 3) := dk_182 0 89 (dk_at dksX1_steps_0 16 rfl rfl)
theorem dX1_steps_19 : decode cX1_steps 19 = .ok (.invokestatic 103, 3) := dk_184 0 103 (dk_at dksX1_steps_0 19 rfl rfl)
theorem dX1_steps_22 : decode cX1_steps 22 = .ok (.new 399, 3) := dk_187 1 143 (dk_at dksX1_steps_1 0 rfl rfl)
theorem dX1_steps_25 : decode cX1_steps 25 = .ok (.dup, 1) := dk_89 (dk_at dksX1_steps_1 3 rfl rfl)
theorem dX1_steps_26 : decode cX1_steps 26 = .ok (.invokespecial 401, 3) := dk_183 1 145 (dk_at dksX1_steps_1 4 rfl rfl)
theorem dX1_steps_29 : decode cX1_steps 29 = .ok (.astore_n 3, 1) := dk_78 (dk_at dksX1_steps_1 7 rfl rfl)
theorem dX1_steps_30 : decode cX1_steps 30 = .ok (.new 402, 3) := dk_187 1 146 (dk_at dksX1_steps_1 8 rfl rfl)
theorem dX1_steps_33 : decode cX1_steps 33 = .ok (.dup, 1) := dk_89 (dk_at dksX1_steps_1 11 rfl rfl)
theorem dX1_steps_34 : decode cX1_steps 34 = .ok (.invokespecial 404, 3) := dk_183 1 148 (dk_at dksX1_steps_1 12 rfl rfl)
theorem dX1_steps_37 : decode cX1_steps 37 = .ok (.astore 4, 2) := dk_58 4 (dk_at dksX1_steps_1 15 rfl rfl)
theorem dX1_steps_39 : decode cX1_steps 39 = .ok (.aload_n 3, 1) := dk_45 (dk_at dksX1_steps_1 17 rfl rfl)
theorem dX1_steps_40 : decode cX1_steps 40 = .ok (.iload_n 1, 1) := dk_27 (dk_at dksX1_steps_1 18 rfl rfl)
theorem dX1_steps_41 : decode cX1_steps 41 = .ok (.invokestatic 405, 3) := dk_184 1 149 (dk_at dksX1_steps_1 19 rfl rfl)
theorem dX1_steps_44 : decode cX1_steps 44 = .ok (.iconst 0, 1) := dk_3 (dk_at dksX1_steps_1 22 rfl rfl)
theorem dX1_steps_45 : decode cX1_steps 45 = .ok (.invokestatic 405, 3) := dk_184 1 149 (dk_at dksX1_steps_2 0 rfl rfl)
theorem dX1_steps_48 : decode cX1_steps 48 = .ok (.invokevirtual 411, 3) := dk_182 1 155 (dk_at dksX1_steps_2 3 rfl rfl)
theorem dX1_steps_51 : decode cX1_steps 51 = .ok (.pop, 1) := dk_87 (dk_at dksX1_steps_2 6 rfl rfl)
theorem dX1_steps_52 : decode cX1_steps 52 = .ok (.aload 4, 2) := dk_25 4 (dk_at dksX1_steps_2 7 rfl rfl)
theorem dX1_steps_54 : decode cX1_steps 54 = .ok (.iload_n 1, 1) := dk_27 (dk_at dksX1_steps_2 9 rfl rfl)
theorem dX1_steps_55 : decode cX1_steps 55 = .ok (.invokestatic 405, 3) := dk_184 1 149 (dk_at dksX1_steps_2 10 rfl rfl)
theorem dX1_steps_58 : decode cX1_steps 58 = .ok (.invokevirtual 415, 3) := dk_182 1 159 (dk_at dksX1_steps_2 13 rfl rfl)
theorem dX1_steps_61 : decode cX1_steps 61 = .ok (.aload 4, 2) := dk_25 4 (dk_at dksX1_steps_2 16 rfl rfl)
theorem dX1_steps_63 : decode cX1_steps 63 = .ok (.invokevirtual 419, 3) := dk_182 1 163 (dk_at dksX1_steps_2 18 rfl rfl)
theorem dX1_steps_66 : decode cX1_steps 66 = .ok (.ifCond .ne 168, 3) := dk_154 0 168 (dk_at dksX1_steps_2 21 rfl rfl)
theorem dX1_steps_69 : decode cX1_steps 69 = .ok (.aload_n 3, 1) := dk_45 (dk_at dksX1_steps_3 0 rfl rfl)
theorem dX1_steps_70 : decode cX1_steps 70 = .ok (.iload_n 2, 1) := dk_28 (dk_at dksX1_steps_3 1 rfl rfl)
theorem dX1_steps_71 : decode cX1_steps 71 = .ok (.invokestatic 405, 3) := dk_184 1 149 (dk_at dksX1_steps_3 2 rfl rfl)
theorem dX1_steps_74 : decode cX1_steps 74 = .ok (.invokevirtual 422, 3) := dk_182 1 166 (dk_at dksX1_steps_3 5 rfl rfl)
theorem dX1_steps_77 : decode cX1_steps 77 = .ok (.ifCond .ne 157, 3) := dk_154 0 157 (dk_at dksX1_steps_3 8 rfl rfl)
theorem dX1_steps_80 : decode cX1_steps 80 = .ok (.aload 4, 2) := dk_25 4 (dk_at dksX1_steps_3 11 rfl rfl)
theorem dX1_steps_82 : decode cX1_steps 82 = .ok (.invokevirtual 425, 3) := dk_182 1 169 (dk_at dksX1_steps_3 13 rfl rfl)
theorem dX1_steps_85 : decode cX1_steps 85 = .ok (.checkcast 406, 3) := dk_192 1 150 (dk_at dksX1_steps_3 16 rfl rfl)
theorem dX1_steps_88 : decode cX1_steps 88 = .ok (.invokevirtual 429, 3) := dk_182 1 173 (dk_at dksX1_steps_3 19 rfl rfl)
theorem dX1_steps_91 : decode cX1_steps 91 = .ok (.istore 5, 2) := dk_54 5 (dk_at dksX1_steps_3 22 rfl rfl)
theorem dX1_steps_93 : decode cX1_steps 93 = .ok (.iconst 0, 1) := dk_3 (dk_at dksX1_steps_4 0 rfl rfl)
theorem dX1_steps_94 : decode cX1_steps 94 = .ok (.istore 6, 2) := dk_54 6 (dk_at dksX1_steps_4 1 rfl rfl)
theorem dX1_steps_96 : decode cX1_steps 96 = .ok (.iload 6, 2) := dk_21 6 (dk_at dksX1_steps_4 3 rfl rfl)
theorem dX1_steps_98 : decode cX1_steps 98 = .ok (.aload_n 0, 1) := dk_42 (dk_at dksX1_steps_4 5 rfl rfl)
theorem dX1_steps_99 : decode cX1_steps 99 = .ok (.getfield 40, 3) := dk_180 0 40 (dk_at dksX1_steps_4 6 rfl rfl)
theorem dX1_steps_102 : decode cX1_steps 102 = .ok (.invokevirtual 89, 3) := dk_182 0 89 (dk_at dksX1_steps_4 9 rfl rfl)
theorem dX1_steps_105 : decode cX1_steps 105 = .ok (.if_icmp .ge 126, 3) := dk_162 0 126 (dk_at dksX1_steps_4 12 rfl rfl)
theorem dX1_steps_108 : decode cX1_steps 108 = .ok (.aload_n 0, 1) := dk_42 (dk_at dksX1_steps_4 15 rfl rfl)
theorem dX1_steps_109 : decode cX1_steps 109 = .ok (.getfield 40, 3) := dk_180 0 40 (dk_at dksX1_steps_4 16 rfl rfl)
theorem dX1_steps_112 : decode cX1_steps 112 = .ok (.iload 6, 2) := dk_21 6 (dk_at dksX1_steps_4 19 rfl rfl)
theorem dX1_steps_114 : decode cX1_steps 114 = .ok (.invokevirtual 107, 3) := dk_182 0 107 (dk_at dksX1_steps_4 21 rfl rfl)
theorem dX1_steps_117 : decode cX1_steps 117 = .ok (.checkcast 224, 3) := dk_192 0 224 (dk_at dksX1_steps_5 0 rfl rfl)
theorem dX1_steps_120 : decode cX1_steps 120 = .ok (.astore 7, 2) := dk_58 7 (dk_at dksX1_steps_5 3 rfl rfl)
theorem dX1_steps_122 : decode cX1_steps 122 = .ok (.aload 7, 2) := dk_25 7 (dk_at dksX1_steps_5 5 rfl rfl)
theorem dX1_steps_124 : decode cX1_steps 124 = .ok (.getfield 241, 3) := dk_180 0 241 (dk_at dksX1_steps_5 7 rfl rfl)
theorem dX1_steps_127 : decode cX1_steps 127 = .ok (.ifnull 16, 3) := dk_198 0 16 (dk_at dksX1_steps_5 10 rfl rfl)
theorem dX1_steps_130 : decode cX1_steps 130 = .ok (.aload 7, 2) := dk_25 7 (dk_at dksX1_steps_5 13 rfl rfl)
theorem dX1_steps_132 : decode cX1_steps 132 = .ok (.getfield 241, 3) := dk_180 0 241 (dk_at dksX1_steps_5 15 rfl rfl)
theorem dX1_steps_135 : decode cX1_steps 135 = .ok (.getfield 215, 3) := dk_180 0 215 (dk_at dksX1_steps_5 18 rfl rfl)
theorem dX1_steps_138 : decode cX1_steps 138 = .ok (.iload 5, 2) := dk_21 5 (dk_at dksX1_steps_5 21 rfl rfl)
theorem dX1_steps_140 : decode cX1_steps 140 = .ok (.if_icmp .ne 7, 3) := dk_160 0 7 (dk_at dksX1_steps_6 0 rfl rfl)
theorem dX1_steps_143 : decode cX1_steps 143 = .ok (.iconst 1, 1) := dk_4 (dk_at dksX1_steps_6 3 rfl rfl)
theorem dX1_steps_144 : decode cX1_steps 144 = .ok (.goto 4, 3) := dk_167 0 4 (dk_at dksX1_steps_6 4 rfl rfl)
theorem dX1_steps_147 : decode cX1_steps 147 = .ok (.iconst 0, 1) := dk_3 (dk_at dksX1_steps_6 7 rfl rfl)
theorem dX1_steps_148 : decode cX1_steps 148 = .ok (.istore 8, 2) := dk_54 8 (dk_at dksX1_steps_6 8 rfl rfl)
theorem dX1_steps_150 : decode cX1_steps 150 = .ok (.iload 8, 2) := dk_21 8 (dk_at dksX1_steps_6 10 rfl rfl)
theorem dX1_steps_152 : decode cX1_steps 152 = .ok (.ifCond .eq 73, 3) := dk_153 0 73 (dk_at dksX1_steps_6 12 rfl rfl)
theorem dX1_steps_155 : decode cX1_steps 155 = .ok (.aload_n 3, 1) := dk_45 (dk_at dksX1_steps_6 15 rfl rfl)
theorem dX1_steps_156 : decode cX1_steps 156 = .ok (.aload 7, 2) := dk_25 7 (dk_at dksX1_steps_6 16 rfl rfl)
theorem dX1_steps_158 : decode cX1_steps 158 = .ok (.getfield 432, 3) := dk_180 1 176 (dk_at dksX1_steps_6 18 rfl rfl)
theorem dX1_steps_161 : decode cX1_steps 161 = .ok (.getfield 215, 3) := dk_180 0 215 (dk_at dksX1_steps_6 21 rfl rfl)
theorem dX1_steps_164 : decode cX1_steps 164 = .ok (.invokestatic 405, 3) := dk_184 1 149 (dk_at dksX1_steps_7 0 rfl rfl)
theorem dX1_steps_167 : decode cX1_steps 167 = .ok (.invokevirtual 422, 3) := dk_182 1 166 (dk_at dksX1_steps_7 3 rfl rfl)
theorem dX1_steps_170 : decode cX1_steps 170 = .ok (.ifCond .ne 55, 3) := dk_154 0 55 (dk_at dksX1_steps_7 6 rfl rfl)
theorem dX1_steps_173 : decode cX1_steps 173 = .ok (.aload_n 3, 1) := dk_45 (dk_at dksX1_steps_7 9 rfl rfl)
theorem dX1_steps_174 : decode cX1_steps 174 = .ok (.aload 7, 2) := dk_25 7 (dk_at dksX1_steps_7 10 rfl rfl)
theorem dX1_steps_176 : decode cX1_steps 176 = .ok (.getfield 432, 3) := dk_180 1 176 (dk_at dksX1_steps_7 12 rfl rfl)
theorem dX1_steps_179 : decode cX1_steps 179 = .ok (.getfield 215, 3) := dk_180 0 215 (dk_at dksX1_steps_7 15 rfl rfl)
theorem dX1_steps_182 : decode cX1_steps 182 = .ok (.invokestatic 405, 3) := dk_184 1 149 (dk_at dksX1_steps_7 18 rfl rfl)
theorem dX1_steps_185 : decode cX1_steps 185 = .ok (.aload_n 3, 1) := dk_45 (dk_at dksX1_steps_7 21 rfl rfl)
theorem dX1_steps_186 : decode cX1_steps 186 = .ok (.iload 5, 2) := dk_21 5 (dk_at dksX1_steps_7 22 rfl rfl)
theorem dX1_steps_188 : decode cX1_steps 188 = .ok (.invokestatic 405, 3) := dk_184 1 149 (dk_at dksX1_steps_8 0 rfl rfl)
theorem dX1_steps_191 : decode cX1_steps 191 = .ok (.invokevirtual 435, 3) := dk_182 1 179 (dk_at dksX1_steps_8 3 rfl rfl)
theorem dX1_steps_194 : decode cX1_steps 194 = .ok (.checkcast 406, 3) := dk_192 1 150 (dk_at dksX1_steps_8 6 rfl rfl)
theorem dX1_steps_197 : decode cX1_steps 197 = .ok (.invokevirtual 429, 3) := dk_182 1 173 (dk_at dksX1_steps_8 9 rfl rfl)
theorem dX1_steps_200 : decode cX1_steps 200 = .ok (.iconst 1, 1) := dk_4 (dk_at dksX1_steps_8 12 rfl rfl)
theorem dX1_steps_201 : decode cX1_steps 201 = .ok (.iadd, 1) := dk_96 (dk_at dksX1_steps_8 13 rfl rfl)
theorem dX1_steps_202 : decode cX1_steps 202 = .ok (.invokestatic 405, 3) := dk_184 1 149 (dk_at dksX1_steps_8 14 rfl rfl)
theorem dX1_steps_205 : decode cX1_steps 205 = .ok (.invokevirtual 411, 3) := dk_182 1 155 (dk_at dksX1_steps_8 17 rfl rfl)
theorem dX1_steps_208 : decode cX1_steps 208 = .ok (.pop, 1) := dk_87 (dk_at dksX1_steps_8 20 rfl rfl)
theorem dX1_steps_209 : decode cX1_steps 209 = .ok (.aload 4, 2) := dk_25 4 (dk_at dksX1_steps_8 21 rfl rfl)
theorem dX1_steps_211 : decode cX1_steps 211 = .ok (.aload 7, 2) := dk_25 7 (dk_at dksX1_steps_9 0 rfl rfl)
theorem dX1_steps_213 : decode cX1_steps 213 = .ok (.getfield 432, 3) := dk_180 1 176 (dk_at dksX1_steps_9 2 rfl rfl)
theorem dX1_steps_216 : decode cX1_steps 216 = .ok (.getfield 215, 3) := dk_180 0 215 (dk_at dksX1_steps_9 5 rfl rfl)
theorem dX1_steps_219 : decode cX1_steps 219 = .ok (.invokestatic 405, 3) := dk_184 1 149 (dk_at dksX1_steps_9 8 rfl rfl)
theorem dX1_steps_222 : decode cX1_steps 222 = .ok (.invokevirtual 415, 3) := dk_182 1 159 (dk_at dksX1_steps_9 11 rfl rfl)
theorem dX1_steps_225 : decode cX1_steps 225 = .ok (.iinc 6 1, 3) := dk_132 6 1 (dk_at dksX1_steps_9 14 rfl rfl)
theorem dX1_steps_228 : decode cX1_steps 228 = .ok (.goto (-132), 3) := dk_167 255 124 (dk_at dksX1_steps_9 17 rfl rfl)
theorem dX1_steps_231 : decode cX1_steps 231 = .ok (.goto (-170), 3) := dk_167 255 86 (dk_at dksX1_steps_9 20 rfl rfl)
theorem dX1_steps_234 : decode cX1_steps 234 = .ok (.aload_n 3, 1) := dk_45 (dk_at dksX1_steps_9 23 rfl rfl)
theorem dX1_steps_235 : decode cX1_steps 235 = .ok (.iload_n 2, 1) := dk_28 (dk_at dksX1_steps_10 0 rfl rfl)
theorem dX1_steps_236 : decode cX1_steps 236 = .ok (.invokestatic 405, 3) := dk_184 1 149 (dk_at dksX1_steps_10 1 rfl rfl)
theorem dX1_steps_239 : decode cX1_steps 239 = .ok (.invokevirtual 422, 3) := dk_182 1 166 (dk_at dksX1_steps_10 4 rfl rfl)
theorem dX1_steps_242 : decode cX1_steps 242 = .ok (.ifCond .eq 20, 3) := dk_153 0 20 (dk_at dksX1_steps_10 7 rfl rfl)
theorem dX1_steps_245 : decode cX1_steps 245 = .ok (.aload_n 3, 1) := dk_45 (dk_at dksX1_steps_10 10 rfl rfl)
theorem dX1_steps_246 : decode cX1_steps 246 = .ok (.iload_n 2, 1) := dk_28 (dk_at dksX1_steps_10 11 rfl rfl)
theorem dX1_steps_247 : decode cX1_steps 247 = .ok (.invokestatic 405, 3) := dk_184 1 149 (dk_at dksX1_steps_10 12 rfl rfl)
theorem dX1_steps_250 : decode cX1_steps 250 = .ok (.invokevirtual 435, 3) := dk_182 1 179 (dk_at dksX1_steps_10 15 rfl rfl)
theorem dX1_steps_253 : decode cX1_steps 253 = .ok (.checkcast 406, 3) := dk_192 1 150 (dk_at dksX1_steps_10 18 rfl rfl)
theorem dX1_steps_256 : decode cX1_steps 256 = .ok (.invokevirtual 429, 3) := dk_182 1 173 (dk_at dksX1_steps_10 21 rfl rfl)
theorem dX1_steps_259 : decode cX1_steps 259 = .ok (.goto 4, 3) := dk_167 0 4 (dk_at dksX1_steps_11 0 rfl rfl)
theorem dX1_steps_262 : decode cX1_steps 262 = .ok (.iconst (-1), 1) := dk_2 (dk_at dksX1_steps_11 3 rfl rfl)
theorem dX1_steps_263 : decode cX1_steps 263 = .ok (.ireturn, 1) := dk_172 (dk_at dksX1_steps_11 4 rfl rfl)
abbrev cX1_keep : ByteArray := prog_1_method_59_code
def yX1_keep : MethodName := ⟨RX1, "keep", "(I)I"⟩
def dkwX1_keep_2 : List UInt8 := [172]
abbrev dktX1_keep_2 : List UInt8 := dkwX1_keep_2 ++ []
def dkwX1_keep_1 : List UInt8 := [182, 1, 43, 182, 1, 128, 42, 182, 1, 124, 183, 1, 184, 182, 1, 187, 87, 42, 180, 0, 211, 180, 1, 50]
abbrev dktX1_keep_1 : List UInt8 := dkwX1_keep_1 ++ dktX1_keep_2
def dkwX1_keep_0 : List UInt8 := [27, 133, 9, 10, 184, 0, 12, 184, 0, 85, 42, 180, 0, 72, 27, 184, 1, 149, 187, 1, 182, 89, 42]
abbrev dktX1_keep_0 : List UInt8 := dkwX1_keep_0 ++ dktX1_keep_1
theorem dksX1_keep_0 : cX1_keep.data.toList.drop 0 = dktX1_keep_0 := by decide +kernel
theorem dksX1_keep_1 : cX1_keep.data.toList.drop 23 = dktX1_keep_1 := dk_seg dksX1_keep_0 23 rfl rfl
theorem dksX1_keep_2 : cX1_keep.data.toList.drop 47 = dktX1_keep_2 := dk_seg dksX1_keep_1 24 rfl rfl
theorem dX1_keep_0 : decode cX1_keep 0 = .ok (.iload_n 1, 1) := dk_27 (dk_at dksX1_keep_0 0 rfl rfl)
theorem dX1_keep_1 : decode cX1_keep 1 = .ok (.i2l, 1) := dk_133 (dk_at dksX1_keep_0 1 rfl rfl)
theorem dX1_keep_2 : decode cX1_keep 2 = .ok (.lconst 0, 1) := dk_9 (dk_at dksX1_keep_0 2 rfl rfl)
theorem dX1_keep_3 : decode cX1_keep 3 = .ok (.lconst 1, 1) := dk_10 (dk_at dksX1_keep_0 3 rfl rfl)
theorem dX1_keep_4 : decode cX1_keep 4 = .ok (.invokestatic 12, 3) := dk_184 0 12 (dk_at dksX1_keep_0 4 rfl rfl)
theorem dX1_keep_7 : decode cX1_keep 7 = .ok (.invokestatic 85, 3) := dk_184 0 85 (dk_at dksX1_keep_0 7 rfl rfl)
theorem dX1_keep_10 : decode cX1_keep 10 = .ok (.aload_n 0, 1) := dk_42 (dk_at dksX1_keep_0 10 rfl rfl)
theorem dX1_keep_11 : decode cX1_keep 11 = .ok (.getfield 72, 3) := dk_180 0 72 (dk_at dksX1_keep_0 11 rfl rfl)
theorem dX1_keep_14 : decode cX1_keep 14 = .ok (.iload_n 1, 1) := dk_27 (dk_at dksX1_keep_0 14 rfl rfl)
theorem dX1_keep_15 : decode cX1_keep 15 = .ok (.invokestatic 405, 3) := dk_184 1 149 (dk_at dksX1_keep_0 15 rfl rfl)
theorem dX1_keep_18 : decode cX1_keep 18 = .ok (.new 438, 3) := dk_187 1 182 (dk_at dksX1_keep_0 18 rfl rfl)
theorem dX1_keep_21 : decode cX1_keep 21 = .ok (.dup, 1) := dk_89 (dk_at dksX1_keep_0 21 rfl rfl)
theorem dX1_keep_22 : decode cX1_keep 22 = .ok (.aload_n 0, 1) := dk_42 (dk_at dksX1_keep_0 22 rfl rfl)
theorem dX1_keep_23 : decode cX1_keep 23 = .ok (.invokevirtual 299, 3) := dk_182 1 43 (dk_at dksX1_keep_1 0 rfl rfl)
theorem dX1_keep_26 : decode cX1_keep 26 = .ok (.invokevirtual 384, 3) := dk_182 1 128 (dk_at dksX1_keep_1 3 rfl rfl)
theorem dX1_keep_29 : decode cX1_keep 29 = .ok (.aload_n 0, 1) := dk_42 (dk_at dksX1_keep_1 6 rfl rfl)
theorem dX1_keep_30 : decode cX1_keep 30 = .ok (.invokevirtual 380, 3) := dk_182 1 124 (dk_at dksX1_keep_1 7 rfl rfl)
theorem dX1_keep_33 : decode cX1_keep 33 = .ok (.invokespecial 440, 3) := dk_183 1 184 (dk_at dksX1_keep_1 10 rfl rfl)
theorem dX1_keep_36 : decode cX1_keep 36 = .ok (.invokevirtual 443, 3) := dk_182 1 187 (dk_at dksX1_keep_1 13 rfl rfl)
theorem dX1_keep_39 : decode cX1_keep 39 = .ok (.pop, 1) := dk_87 (dk_at dksX1_keep_1 16 rfl rfl)
theorem dX1_keep_40 : decode cX1_keep 40 = .ok (.aload_n 0, 1) := dk_42 (dk_at dksX1_keep_1 17 rfl rfl)
theorem dX1_keep_41 : decode cX1_keep 41 = .ok (.getfield 211, 3) := dk_180 0 211 (dk_at dksX1_keep_1 18 rfl rfl)
theorem dX1_keep_44 : decode cX1_keep 44 = .ok (.getfield 306, 3) := dk_180 1 50 (dk_at dksX1_keep_1 21 rfl rfl)
theorem dX1_keep_47 : decode cX1_keep 47 = .ok (.ireturn, 1) := dk_172 (dk_at dksX1_keep_2 0 rfl rfl)
abbrev cX1_restore : ByteArray := prog_1_method_60_code
def yX1_restore : MethodName := ⟨RX1, "restore", "(I)I"⟩
def dkwX1_restore_2 : List UInt8 := [181, 0, 211, 42, 44, 180, 1, 191, 182, 1, 131, 42, 180, 0, 211, 180, 1, 50, 172]
abbrev dktX1_restore_2 : List UInt8 := dkwX1_restore_2 ++ []
def dkwX1_restore_1 : List UInt8 := [42, 180, 0, 72, 27, 184, 1, 149, 182, 1, 189, 192, 1, 182, 77, 42, 44, 180, 1, 190, 182, 1, 128]
abbrev dktX1_restore_1 : List UInt8 := dkwX1_restore_1 ++ dktX1_restore_2
def dkwX1_restore_0 : List UInt8 := [27, 133, 9, 10, 184, 0, 12, 184, 0, 85, 42, 180, 0, 72, 27, 184, 1, 149, 182, 1, 188, 184, 0, 93]
abbrev dktX1_restore_0 : List UInt8 := dkwX1_restore_0 ++ dktX1_restore_1
theorem dksX1_restore_0 : cX1_restore.data.toList.drop 0 = dktX1_restore_0 := by decide +kernel
theorem dksX1_restore_1 : cX1_restore.data.toList.drop 24 = dktX1_restore_1 := dk_seg dksX1_restore_0 24 rfl rfl
theorem dksX1_restore_2 : cX1_restore.data.toList.drop 47 = dktX1_restore_2 := dk_seg dksX1_restore_1 23 rfl rfl
theorem dX1_restore_0 : decode cX1_restore 0 = .ok (.iload_n 1, 1) := dk_27 (dk_at dksX1_restore_0 0 rfl rfl)
theorem dX1_restore_1 : decode cX1_restore 1 = .ok (.i2l, 1) := dk_133 (dk_at dksX1_restore_0 1 rfl rfl)
theorem dX1_restore_2 : decode cX1_restore 2 = .ok (.lconst 0, 1) := dk_9 (dk_at dksX1_restore_0 2 rfl rfl)
theorem dX1_restore_3 : decode cX1_restore 3 = .ok (.lconst 1, 1) := dk_10 (dk_at dksX1_restore_0 3 rfl rfl)
theorem dX1_restore_4 : decode cX1_restore 4 = .ok (.invokestatic 12, 3) := dk_184 0 12 (dk_at dksX1_restore_0 4 rfl rfl)
theorem dX1_restore_7 : decode cX1_restore 7 = .ok (.invokestatic 85, 3) := dk_184 0 85 (dk_at dksX1_restore_0 7 rfl rfl)
theorem dX1_restore_10 : decode cX1_restore 10 = .ok (.aload_n 0, 1) := dk_42 (dk_at dksX1_restore_0 10 rfl rfl)
theorem dX1_restore_11 : decode cX1_restore 11 = .ok (.getfield 72, 3) := dk_180 0 72 (dk_at dksX1_restore_0 11 rfl rfl)
theorem dX1_restore_14 : decode cX1_restore 14 = .ok (.iload_n 1, 1) := dk_27 (dk_at dksX1_restore_0 14 rfl rfl)
theorem dX1_restore_15 : decode cX1_restore 15 = .ok (.invokestatic 405, 3) := dk_184 1 149 (dk_at dksX1_restore_0 15 rfl rfl)
theorem dX1_restore_18 : decode cX1_restore 18 = .ok (.invokevirtual 444, 3) := dk_182 1 188 (dk_at dksX1_restore_0 18 rfl rfl)
theorem dX1_restore_21 : decode cX1_restore 21 = .ok (.invokestatic 93, 3) := dk_184 0 93 (dk_at dksX1_restore_0 21 rfl rfl)
theorem dX1_restore_24 : decode cX1_restore 24 = .ok (.aload_n 0, 1) := dk_42 (dk_at dksX1_restore_1 0 rfl rfl)
theorem dX1_restore_25 : decode cX1_restore 25 = .ok (.getfield 72, 3) := dk_180 0 72 (dk_at dksX1_restore_1 1 rfl rfl)
theorem dX1_restore_28 : decode cX1_restore 28 = .ok (.iload_n 1, 1) := dk_27 (dk_at dksX1_restore_1 4 rfl rfl)
theorem dX1_restore_29 : decode cX1_restore 29 = .ok (.invokestatic 405, 3) := dk_184 1 149 (dk_at dksX1_restore_1 5 rfl rfl)
theorem dX1_restore_32 : decode cX1_restore 32 = .ok (.invokevirtual 445, 3) := dk_182 1 189 (dk_at dksX1_restore_1 8 rfl rfl)
theorem dX1_restore_35 : decode cX1_restore 35 = .ok (.checkcast 438, 3) := dk_192 1 182 (dk_at dksX1_restore_1 11 rfl rfl)
theorem dX1_restore_38 : decode cX1_restore 38 = .ok (.astore_n 2, 1) := dk_77 (dk_at dksX1_restore_1 14 rfl rfl)
theorem dX1_restore_39 : decode cX1_restore 39 = .ok (.aload_n 0, 1) := dk_42 (dk_at dksX1_restore_1 15 rfl rfl)
theorem dX1_restore_40 : decode cX1_restore 40 = .ok (.aload_n 2, 1) := dk_44 (dk_at dksX1_restore_1 16 rfl rfl)
theorem dX1_restore_41 : decode cX1_restore 41 = .ok (.getfield 446, 3) := dk_180 1 190 (dk_at dksX1_restore_1 17 rfl rfl)
theorem dX1_restore_44 : decode cX1_restore 44 = .ok (.invokevirtual 384, 3) := dk_182 1 128 (dk_at dksX1_restore_1 20 rfl rfl)
theorem dX1_restore_47 : decode cX1_restore 47 = .ok (.putfield 211, 3) := dk_181 0 211 (dk_at dksX1_restore_2 0 rfl rfl)
theorem dX1_restore_50 : decode cX1_restore 50 = .ok (.aload_n 0, 1) := dk_42 (dk_at dksX1_restore_2 3 rfl rfl)
theorem dX1_restore_51 : decode cX1_restore 51 = .ok (.aload_n 2, 1) := dk_44 (dk_at dksX1_restore_2 4 rfl rfl)
theorem dX1_restore_52 : decode cX1_restore 52 = .ok (.getfield 447, 3) := dk_180 1 191 (dk_at dksX1_restore_2 5 rfl rfl)
theorem dX1_restore_55 : decode cX1_restore 55 = .ok (.invokevirtual 387, 3) := dk_182 1 131 (dk_at dksX1_restore_2 8 rfl rfl)
theorem dX1_restore_58 : decode cX1_restore 58 = .ok (.aload_n 0, 1) := dk_42 (dk_at dksX1_restore_2 11 rfl rfl)
theorem dX1_restore_59 : decode cX1_restore 59 = .ok (.getfield 211, 3) := dk_180 0 211 (dk_at dksX1_restore_2 12 rfl rfl)
theorem dX1_restore_62 : decode cX1_restore 62 = .ok (.getfield 306, 3) := dk_180 1 50 (dk_at dksX1_restore_2 15 rfl rfl)
theorem dX1_restore_65 : decode cX1_restore 65 = .ok (.ireturn, 1) := dk_172 (dk_at dksX1_restore_2 18 rfl rfl)
abbrev cX1_count : ByteArray := prog_1_method_61_code
def yX1_count : MethodName := ⟨RX1, "count", "(I)I"⟩
def dkwX1_count_5 : List UInt8 := [187, 0, 3, 89, 183, 0, 5, 191]
abbrev dktX1_count_5 : List UInt8 := dkwX1_count_5 ++ []
def dkwX1_count_4 : List UInt8 := [167, 0, 10, 42, 180, 0, 211, 180, 1, 50, 172, 42, 182, 1, 119, 172, 42, 180, 0, 79, 182, 1, 193, 172]
abbrev dktX1_count_4 : List UInt8 := dkwX1_count_4 ++ dktX1_count_5
def dkwX1_count_3 : List UInt8 := [42, 180, 0, 37, 182, 0, 89, 172, 42, 180, 0, 40, 182, 0, 89, 172, 42, 180, 0, 211, 199, 0, 7, 3]
abbrev dktX1_count_3 : List UInt8 := dkwX1_count_3 ++ dktX1_count_4
def dkwX1_count_2 : List UInt8 := [42, 180, 0, 27, 182, 0, 89, 172, 42, 180, 0, 31, 182, 0, 89, 172, 42, 180, 0, 34, 182, 0, 89, 172]
abbrev dktX1_count_2 : List UInt8 := dkwX1_count_2 ++ dktX1_count_3
def dkwX1_count_1 : List UInt8 := [170, 0, 0, 0, 0, 0, 119, 0, 0, 0, 0, 0, 0, 0, 7, 0, 0, 0, 47, 0, 0, 0, 55, 0, 0, 0, 63, 0, 0, 0, 71, 0, 0, 0, 79, 0, 0, 0, 87, 0, 0, 0, 106, 0, 0, 0, 111]
abbrev dktX1_count_1 : List UInt8 := dkwX1_count_1 ++ dktX1_count_2
def dkwX1_count_0 : List UInt8 := [27]
abbrev dktX1_count_0 : List UInt8 := dkwX1_count_0 ++ dktX1_count_1
theorem dksX1_count_0 : cX1_count.data.toList.drop 0 = dktX1_count_0 := by decide +kernel
theorem dksX1_count_1 : cX1_count.data.toList.drop 1 = dktX1_count_1 := dk_seg dksX1_count_0 1 rfl rfl
theorem dksX1_count_2 : cX1_count.data.toList.drop 48 = dktX1_count_2 := dk_seg dksX1_count_1 47 rfl rfl
theorem dksX1_count_3 : cX1_count.data.toList.drop 72 = dktX1_count_3 := dk_seg dksX1_count_2 24 rfl rfl
theorem dksX1_count_4 : cX1_count.data.toList.drop 96 = dktX1_count_4 := dk_seg dksX1_count_3 24 rfl rfl
theorem dksX1_count_5 : cX1_count.data.toList.drop 120 = dktX1_count_5 := dk_seg dksX1_count_4 24 rfl rfl
theorem dX1_count_0 : decode cX1_count 0 = .ok (.iload_n 1, 1) := dk_27 (dk_at dksX1_count_0 0 rfl rfl)
theorem dX1_count_1 : decode cX1_count 1 = .ok (.tableswitch 119 0 7 #[47, 55, 63, 71, 79, 87, 106, 111], 47) := by decide +kernel
theorem dX1_count_48 : decode cX1_count 48 = .ok (.aload_n 0, 1) := dk_42 (dk_at dksX1_count_2 0 rfl rfl)
theorem dX1_count_49 : decode cX1_count 49 = .ok (.getfield 27, 3) := dk_180 0 27 (dk_at dksX1_count_2 1 rfl rfl)
theorem dX1_count_52 : decode cX1_count 52 = .ok (.invokevirtual 89, 3) := dk_182 0 89 (dk_at dksX1_count_2 4 rfl rfl)
theorem dX1_count_55 : decode cX1_count 55 = .ok (.ireturn, 1) := dk_172 (dk_at dksX1_count_2 7 rfl rfl)
theorem dX1_count_56 : decode cX1_count 56 = .ok (.aload_n 0, 1) := dk_42 (dk_at dksX1_count_2 8 rfl rfl)
theorem dX1_count_57 : decode cX1_count 57 = .ok (.getfield 31, 3) := dk_180 0 31 (dk_at dksX1_count_2 9 rfl rfl)
theorem dX1_count_60 : decode cX1_count 60 = .ok (.invokevirtual 89, 3) := dk_182 0 89 (dk_at dksX1_count_2 12 rfl rfl)
theorem dX1_count_63 : decode cX1_count 63 = .ok (.ireturn, 1) := dk_172 (dk_at dksX1_count_2 15 rfl rfl)
theorem dX1_count_64 : decode cX1_count 64 = .ok (.aload_n 0, 1) := dk_42 (dk_at dksX1_count_2 16 rfl rfl)
theorem dX1_count_65 : decode cX1_count 65 = .ok (.getfield 34, 3) := dk_180 0 34 (dk_at dksX1_count_2 17 rfl rfl)
theorem dX1_count_68 : decode cX1_count 68 = .ok (.invokevirtual 89, 3) := dk_182 0 89 (dk_at dksX1_count_2 20 rfl rfl)
theorem dX1_count_71 : decode cX1_count 71 = .ok (.ireturn, 1) := dk_172 (dk_at dksX1_count_2 23 rfl rfl)
theorem dX1_count_72 : decode cX1_count 72 = .ok (.aload_n 0, 1) := dk_42 (dk_at dksX1_count_3 0 rfl rfl)
theorem dX1_count_73 : decode cX1_count 73 = .ok (.getfield 37, 3) := dk_180 0 37 (dk_at dksX1_count_3 1 rfl rfl)
theorem dX1_count_76 : decode cX1_count 76 = .ok (.invokevirtual 89, 3) := dk_182 0 89 (dk_at dksX1_count_3 4 rfl rfl)
theorem dX1_count_79 : decode cX1_count 79 = .ok (.ireturn, 1) := dk_172 (dk_at dksX1_count_3 7 rfl rfl)
theorem dX1_count_80 : decode cX1_count 80 = .ok (.aload_n 0, 1) := dk_42 (dk_at dksX1_count_3 8 rfl rfl)
theorem dX1_count_81 : decode cX1_count 81 = .ok (.getfield 40, 3) := dk_180 0 40 (dk_at dksX1_count_3 9 rfl rfl)
theorem dX1_count_84 : decode cX1_count 84 = .ok (.invokevirtual 89, 3) := dk_182 0 89 (dk_at dksX1_count_3 12 rfl rfl)
theorem dX1_count_87 : decode cX1_count 87 = .ok (.ireturn, 1) := dk_172 (dk_at dksX1_count_3 15 rfl rfl)
theorem dX1_count_88 : decode cX1_count 88 = .ok (.aload_n 0, 1) := dk_42 (dk_at dksX1_count_3 16 rfl rfl)
theorem dX1_count_89 : decode cX1_count 89 = .ok (.getfield 211, 3) := dk_180 0 211 (dk_at dksX1_count_3 17 rfl rfl)
theorem dX1_count_92 : decode cX1_count 92 = .ok (.ifnonnull 7, 3) := dk_199 0 7 (dk_at dksX1_count_3 20 rfl rfl)
theorem dX1_count_95 : decode cX1_count 95 = .ok (.iconst 0, 1) := dk_3 (dk_at dksX1_count_3 23 rfl rfl)
theorem dX1_count_96 : decode cX1_count 96 = .ok (.goto 10, 3) := dk_167 0 10 (dk_at dksX1_count_4 0 rfl rfl)
theorem dX1_count_99 : decode cX1_count 99 = .ok (.aload_n 0, 1) := dk_42 (dk_at dksX1_count_4 3 rfl rfl)
theorem dX1_count_100 : decode cX1_count 100 = .ok (.getfield 211, 3) := dk_180 0 211 (dk_at dksX1_count_4 4 rfl rfl)
theorem dX1_count_103 : decode cX1_count 103 = .ok (.getfield 306, 3) := dk_180 1 50 (dk_at dksX1_count_4 7 rfl rfl)
theorem dX1_count_106 : decode cX1_count 106 = .ok (.ireturn, 1) := dk_172 (dk_at dksX1_count_4 10 rfl rfl)
theorem dX1_count_107 : decode cX1_count 107 = .ok (.aload_n 0, 1) := dk_42 (dk_at dksX1_count_4 11 rfl rfl)
theorem dX1_count_108 : decode cX1_count 108 = .ok (.invokevirtual 375, 3) := dk_182 1 119 (dk_at dksX1_count_4 12 rfl rfl)
theorem dX1_count_111 : decode cX1_count 111 = .ok (.ireturn, 1) := dk_172 (dk_at dksX1_count_4 15 rfl rfl)
theorem dX1_count_112 : decode cX1_count 112 = .ok (.aload_n 0, 1) := dk_42 (dk_at dksX1_count_4 16 rfl rfl)
theorem dX1_count_113 : decode cX1_count 113 = .ok (.getfield 79, 3) := dk_180 0 79 (dk_at dksX1_count_4 17 rfl rfl)
theorem dX1_count_116 : decode cX1_count 116 = .ok (.invokevirtual 449, 3) := dk_182 1 193 (dk_at dksX1_count_4 20 rfl rfl)
theorem dX1_count_119 : decode cX1_count 119 = .ok (.ireturn, 1) := dk_172 (dk_at dksX1_count_4 23 rfl rfl)
theorem dX1_count_120 : decode cX1_count 120 = .ok (.new 3, 3) := dk_187 0 3 (dk_at dksX1_count_5 0 rfl rfl)
theorem dX1_count_123 : decode cX1_count 123 = .ok (.dup, 1) := dk_89 (dk_at dksX1_count_5 3 rfl rfl)
theorem dX1_count_124 : decode cX1_count 124 = .ok (.invokespecial 5, 3) := dk_183 0 5 (dk_at dksX1_count_5 4 rfl rfl)
theorem dX1_count_127 : decode cX1_count 127 = .ok (.athrow, 1) := dk_191 (dk_at dksX1_count_5 7 rfl rfl)
theorem q108 : (Jvm.Cond.initialized "AnimationController") ∈ lw_all := lw_g (lw_at lw_m1 1 rfl) rfl
theorem q165 : (Jvm.Cond.instantiable "AnimationController" (13 : Nat)) ∈ lw_all := lw_g (lw_at lw_m1 58 rfl) rfl
theorem q167 : (Jvm.Cond.instanceMethod ({ cls := "AnimationController", name := "<init>", desc := "()V" } : Jvm.MethodName)) ∈ lw_all := lw_g (lw_at lw_m1 60 rfl) rfl
theorem q168 : (Jvm.Cond.code ({ cls := "AnimationController", name := "<init>", desc := "()V" } : Jvm.MethodName) prog_1_method_6_code (1 : Nat) (Option.none : Option Jvm.ClassFile.FieldType)) ∈ lw_all := lw_g (lw_at lw_m1 61 rfl) rfl
theorem q169 : (Jvm.Cond.methodLink "AnimationController" (19 : Nat) ({ cls := "java/lang/Object", name := "<init>", desc := "()V" } : Jvm.MethodName)) ∈ lw_all := lw_g (lw_at lw_m1 62 rfl) rfl
theorem q172 : (Jvm.Cond.classLink "AnimationController" (22 : Nat) "java/util/ArrayList") ∈ lw_all := lw_g (lw_at lw_m1 65 rfl) rfl
theorem q174 : (Jvm.Cond.methodLink "AnimationController" (24 : Nat) ({ cls := "java/util/ArrayList", name := "<init>", desc := "(I)V" } : Jvm.MethodName)) ∈ lw_all := lw_g (lw_at lw_m1 67 rfl) rfl
theorem q517 : (Jvm.Cond.classLink "AnimationController" (47 : Nat) "AnimationController$Pose") ∈ lw_all := lw_g (lw_at lw_m2 170 rfl) rfl
theorem q519 : (Jvm.Cond.methodLinkNest "AnimationController" (49 : Nat) ({ cls := "AnimationController$Pose", name := "<init>", desc := "()V" } : Jvm.MethodName) "AnimationController") ∈ lw_tbl := lw_at lw_m2 172 rfl
theorem q525 : (Jvm.Cond.fieldLinkNest "AnimationController" (362 : Nat) "AnimationController$Pose" "clipNumbers" "[I" "AnimationController") ∈ lw_tbl := lw_at lw_m2 178 rfl
theorem q528 : (Jvm.Cond.fieldLinkNest "AnimationController" (365 : Nat) "AnimationController$Pose" "times" "[I" "AnimationController") ∈ lw_tbl := lw_at lw_m2 181 rfl
theorem q531 : (Jvm.Cond.fieldLinkNest "AnimationController" (368 : Nat) "AnimationController$Pose" "weights" "[I" "AnimationController") ∈ lw_tbl := lw_at lw_m2 184 rfl
theorem q534 : (Jvm.Cond.fieldLinkNest "AnimationController" (351 : Nat) "AnimationController$Pose" "many" "I" "AnimationController") ∈ lw_tbl := lw_at lw_m2 187 rfl
theorem q545 : (Jvm.Cond.classLink "AnimationController" (54 : Nat) "AnimationController$Blend") ∈ lw_all := lw_g (lw_at lw_m2 198 rfl) rfl
theorem q547 : (Jvm.Cond.methodLinkNest "AnimationController" (56 : Nat) ({ cls := "AnimationController$Blend", name := "<init>", desc := "(LAnimationController;)V" } : Jvm.MethodName) "AnimationController") ∈ lw_tbl := lw_at lw_m2 200 rfl
theorem q553 : (Jvm.Cond.fieldLinkNest "AnimationController" (343 : Nat) "AnimationController$Blend" "weights" "[I" "AnimationController") ∈ lw_tbl := lw_at lw_m2 206 rfl
theorem q560 : (Jvm.Cond.classLink "AnimationController" (69 : Nat) "java/util/LinkedHashMap") ∈ lw_all := lw_g (lw_at lw_m2 213 rfl) rfl
theorem q562 : (Jvm.Cond.methodLink "AnimationController" (71 : Nat) ({ cls := "java/util/LinkedHashMap", name := "<init>", desc := "()V" } : Jvm.MethodName)) ∈ lw_all := lw_g (lw_at lw_m2 215 rfl) rfl
theorem q609 : (Jvm.Cond.classLink "AnimationController" (76 : Nat) "java/lang/StringBuilder") ∈ lw_all := lw_g (lw_at lw_m3 22 rfl) rfl
theorem q610 : (Jvm.Cond.methodLink "AnimationController" (78 : Nat) ({ cls := "java/lang/StringBuilder", name := "<init>", desc := "(I)V" } : Jvm.MethodName)) ∈ lw_all := lw_g (lw_at lw_m3 23 rfl) rfl
theorem q613 : (Jvm.Cond.fieldLink "AnimationController" (27 : Nat) "AnimationController" "parameters" "Ljava/util/ArrayList;") ∈ lw_all := lw_g (lw_at lw_m3 26 rfl) rfl
theorem q616 : (Jvm.Cond.fieldLink "AnimationController" (31 : Nat) "AnimationController" "clips" "Ljava/util/ArrayList;") ∈ lw_all := lw_g (lw_at lw_m3 29 rfl) rfl
theorem q618 : (Jvm.Cond.fieldLink "AnimationController" (34 : Nat) "AnimationController" "nodes" "Ljava/util/ArrayList;") ∈ lw_all := lw_g (lw_at lw_m3 31 rfl) rfl
theorem q620 : (Jvm.Cond.fieldLink "AnimationController" (37 : Nat) "AnimationController" "states" "Ljava/util/ArrayList;") ∈ lw_all := lw_g (lw_at lw_m3 33 rfl) rfl
theorem q622 : (Jvm.Cond.fieldLink "AnimationController" (40 : Nat) "AnimationController" "transitions" "Ljava/util/ArrayList;") ∈ lw_all := lw_g (lw_at lw_m3 35 rfl) rfl
theorem q624 : (Jvm.Cond.fieldLink "AnimationController" (43 : Nat) "AnimationController" "threshold" "I") ∈ lw_all := lw_g (lw_at lw_m3 37 rfl) rfl
theorem q626 : (Jvm.Cond.fieldLink "AnimationController" (211 : Nat) "AnimationController" "machine" "LAnimationController$Machine;") ∈ lw_all := lw_g (lw_at lw_m3 39 rfl) rfl
theorem q627 : (Jvm.Cond.fieldLink "AnimationController" (50 : Nat) "AnimationController" "pose" "LAnimationController$Pose;") ∈ lw_all := lw_g (lw_at lw_m3 40 rfl) rfl
theorem q629 : (Jvm.Cond.fieldLink "AnimationController" (59 : Nat) "AnimationController" "parts" "LAnimationController$Blend;") ∈ lw_all := lw_g (lw_at lw_m3 42 rfl) rfl
theorem q631 : (Jvm.Cond.fieldLink "AnimationController" (63 : Nat) "AnimationController" "events" "LAnimationController$Blend;") ∈ lw_all := lw_g (lw_at lw_m3 44 rfl) rfl
theorem q633 : (Jvm.Cond.fieldLink "AnimationController" (66 : Nat) "AnimationController" "lengths" "LAnimationController$Blend;") ∈ lw_all := lw_g (lw_at lw_m3 46 rfl) rfl
theorem q634 : (Jvm.Cond.fieldLink "AnimationController" (72 : Nat) "AnimationController" "images" "Ljava/util/LinkedHashMap;") ∈ lw_all := lw_g (lw_at lw_m3 47 rfl) rfl
theorem q636 : (Jvm.Cond.fieldLink "AnimationController" (79 : Nat) "AnimationController" "text" "Ljava/lang/StringBuilder;") ∈ lw_all := lw_g (lw_at lw_m3 49 rfl) rfl
theorem q637 : (Jvm.Cond.laysFinal "AnimationController" "AnimationController" "parameters" "Ljava/util/ArrayList;") ∈ lw_all := lw_g (lw_at lw_m3 50 rfl) rfl
theorem q638 : (Jvm.Cond.soleField "AnimationController" "parameters") ∈ lw_all := lw_g (lw_at lw_m3 51 rfl) rfl
theorem q639 : (Jvm.Cond.laysFinal "AnimationController" "AnimationController" "clips" "Ljava/util/ArrayList;") ∈ lw_all := lw_g (lw_at lw_m3 52 rfl) rfl
theorem q640 : (Jvm.Cond.soleField "AnimationController" "clips") ∈ lw_all := lw_g (lw_at lw_m3 53 rfl) rfl
theorem q641 : (Jvm.Cond.laysFinal "AnimationController" "AnimationController" "nodes" "Ljava/util/ArrayList;") ∈ lw_all := lw_g (lw_at lw_m3 54 rfl) rfl
theorem q642 : (Jvm.Cond.soleField "AnimationController" "nodes") ∈ lw_all := lw_g (lw_at lw_m3 55 rfl) rfl
theorem q643 : (Jvm.Cond.laysFinal "AnimationController" "AnimationController" "states" "Ljava/util/ArrayList;") ∈ lw_all := lw_g (lw_at lw_m3 56 rfl) rfl
theorem q644 : (Jvm.Cond.soleField "AnimationController" "states") ∈ lw_all := lw_g (lw_at lw_m3 57 rfl) rfl
theorem q645 : (Jvm.Cond.laysFinal "AnimationController" "AnimationController" "transitions" "Ljava/util/ArrayList;") ∈ lw_all := lw_g (lw_at lw_m3 58 rfl) rfl
theorem q646 : (Jvm.Cond.soleField "AnimationController" "transitions") ∈ lw_all := lw_g (lw_at lw_m3 59 rfl) rfl
theorem q647 : (Jvm.Cond.lays "AnimationController" "AnimationController" "threshold" "I") ∈ lw_all := lw_g (lw_at lw_m3 60 rfl) rfl
theorem q648 : (Jvm.Cond.soleField "AnimationController" "threshold") ∈ lw_all := lw_g (lw_at lw_m3 61 rfl) rfl
theorem q649 : (Jvm.Cond.lays "AnimationController" "AnimationController" "machine" "LAnimationController$Machine;") ∈ lw_all := lw_g (lw_at lw_m3 62 rfl) rfl
theorem q650 : (Jvm.Cond.soleField "AnimationController" "machine") ∈ lw_all := lw_g (lw_at lw_m3 63 rfl) rfl
theorem q651 : (Jvm.Cond.laysFinal "AnimationController" "AnimationController" "pose" "LAnimationController$Pose;") ∈ lw_all := lw_g (lw_at lw_m3 64 rfl) rfl
theorem q652 : (Jvm.Cond.soleField "AnimationController" "pose") ∈ lw_all := lw_g (lw_at lw_m3 65 rfl) rfl
theorem q653 : (Jvm.Cond.laysFinal "AnimationController" "AnimationController" "parts" "LAnimationController$Blend;") ∈ lw_all := lw_g (lw_at lw_m3 66 rfl) rfl
theorem q654 : (Jvm.Cond.soleField "AnimationController" "parts") ∈ lw_all := lw_g (lw_at lw_m3 67 rfl) rfl
theorem q655 : (Jvm.Cond.laysFinal "AnimationController" "AnimationController" "events" "LAnimationController$Blend;") ∈ lw_all := lw_g (lw_at lw_m3 68 rfl) rfl
theorem q656 : (Jvm.Cond.soleField "AnimationController" "events") ∈ lw_all := lw_g (lw_at lw_m3 69 rfl) rfl
theorem q657 : (Jvm.Cond.laysFinal "AnimationController" "AnimationController" "lengths" "LAnimationController$Blend;") ∈ lw_all := lw_g (lw_at lw_m3 70 rfl) rfl
theorem q658 : (Jvm.Cond.soleField "AnimationController" "lengths") ∈ lw_all := lw_g (lw_at lw_m3 71 rfl) rfl
theorem q659 : (Jvm.Cond.laysFinal "AnimationController" "AnimationController" "images" "Ljava/util/LinkedHashMap;") ∈ lw_all := lw_g (lw_at lw_m3 72 rfl) rfl
theorem q660 : (Jvm.Cond.soleField "AnimationController" "images") ∈ lw_all := lw_g (lw_at lw_m3 73 rfl) rfl
theorem q661 : (Jvm.Cond.laysFinal "AnimationController" "AnimationController" "text" "Ljava/lang/StringBuilder;") ∈ lw_all := lw_g (lw_at lw_m3 74 rfl) rfl
theorem q662 : (Jvm.Cond.soleField "AnimationController" "text") ∈ lw_all := lw_g (lw_at lw_m3 75 rfl) rfl
theorem q663 : (Jvm.Cond.superclass "AnimationController" "java/lang/Object") ∈ lw_all := lw_g (lw_at lw_m3 76 rfl) rfl
theorem q665 : (Jvm.Cond.instanceMethod ({ cls := "AnimationController", name := "reset", desc := "()I" } : Jvm.MethodName)) ∈ lw_all := lw_g (lw_at lw_m3 78 rfl) rfl
theorem q666 : (Jvm.Cond.selects "AnimationController" ({ cls := "AnimationController", name := "reset", desc := "()I" } : Jvm.MethodName) ({ cls := "AnimationController", name := "reset", desc := "()I" } : Jvm.MethodName)) ∈ lw_all := lw_g (lw_at lw_m3 79 rfl) rfl
theorem q667 : (Jvm.Cond.code ({ cls := "AnimationController", name := "reset", desc := "()I" } : Jvm.MethodName) prog_1_method_33_code (2 : Nat) (Option.some Jvm.ClassFile.FieldType.int)) ∈ lw_all := lw_g (lw_at lw_m3 80 rfl) rfl
theorem q668 : (Jvm.Cond.methodLink "AnimationController" (89 : Nat) ({ cls := "java/util/ArrayList", name := "size", desc := "()I" } : Jvm.MethodName)) ∈ lw_all := lw_g (lw_at lw_m3 81 rfl) rfl
theorem q672 : (Jvm.Cond.methodLink "AnimationController" (107 : Nat) ({ cls := "java/util/ArrayList", name := "get", desc := "(I)Ljava/lang/Object;" } : Jvm.MethodName)) ∈ lw_all := lw_g (lw_at lw_m3 85 rfl) rfl
theorem q686 : (Jvm.Cond.classLink "AnimationController" (96 : Nat) "AnimationController$Parameter") ∈ lw_all := lw_g (lw_at lw_m3 99 rfl) rfl
theorem q687 : (Jvm.Cond.classLink "AnimationController" (206 : Nat) "AnimationController$Machine") ∈ lw_all := lw_g (lw_at lw_m3 100 rfl) rfl
theorem q689 : (Jvm.Cond.classLink "AnimationController" (201 : Nat) "AnimationController$State") ∈ lw_all := lw_g (lw_at lw_m3 102 rfl) rfl
theorem q690 : (Jvm.Cond.methodLink "AnimationController" (208 : Nat) ({ cls := "AnimationController$Machine", name := "<init>", desc := "(LAnimationController;LAnimationController$State;)V" } : Jvm.MethodName)) ∈ lw_all := lw_g (lw_at lw_m3 103 rfl) rfl
theorem q701 : (Jvm.Cond.fieldLinkNest "AnimationController" (313 : Nat) "AnimationController$Track" "state" "LAnimationController$State;" "AnimationController") ∈ lw_tbl := lw_at lw_m3 114 rfl
theorem q726 : (Jvm.Cond.fieldLinkNest "AnimationController" (309 : Nat) "AnimationController$Machine" "source" "LAnimationController$Track;" "AnimationController") ∈ lw_tbl := lw_at lw_m3 139 rfl
theorem q728 : (Jvm.Cond.fieldLinkNest "AnimationController" (324 : Nat) "AnimationController$Machine" "target" "LAnimationController$Track;" "AnimationController") ∈ lw_tbl := lw_at lw_m3 141 rfl
theorem q730 : (Jvm.Cond.fieldLinkNest "AnimationController" (327 : Nat) "AnimationController$Machine" "transition" "I" "AnimationController") ∈ lw_tbl := lw_at lw_m3 143 rfl
theorem q732 : (Jvm.Cond.fieldLinkNest "AnimationController" (330 : Nat) "AnimationController$Machine" "elapsed" "I" "AnimationController") ∈ lw_tbl := lw_at lw_m3 145 rfl
theorem q735 : (Jvm.Cond.fieldLinkNest "AnimationController" (333 : Nat) "AnimationController$Machine" "isFrozen" "Z" "AnimationController") ∈ lw_tbl := lw_at lw_m3 148 rfl
theorem q738 : (Jvm.Cond.fieldLinkNest "AnimationController" (377 : Nat) "AnimationController$Machine" "log" "[I" "AnimationController") ∈ lw_tbl := lw_at lw_m3 151 rfl
theorem q740 : (Jvm.Cond.fieldLinkNest "AnimationController" (372 : Nat) "AnimationController$Machine" "logged" "I" "AnimationController") ∈ lw_tbl := lw_at lw_m3 153 rfl
theorem q742 : (Jvm.Cond.fieldLinkNest "AnimationController" (369 : Nat) "AnimationController$Machine" "fired" "I" "AnimationController") ∈ lw_tbl := lw_at lw_m3 155 rfl
theorem q744 : (Jvm.Cond.fieldLinkNest "AnimationController" (306 : Nat) "AnimationController$Machine" "ticks" "I" "AnimationController") ∈ lw_tbl := lw_at lw_m3 157 rfl
theorem q782 : (Jvm.Cond.instanceMethod ({ cls := "AnimationController", name := "target", desc := "()I" } : Jvm.MethodName)) ∈ lw_all := lw_g (lw_at lw_m3 195 rfl) rfl
theorem q783 : (Jvm.Cond.selects "AnimationController" ({ cls := "AnimationController", name := "target", desc := "()I" } : Jvm.MethodName) ({ cls := "AnimationController", name := "target", desc := "()I" } : Jvm.MethodName)) ∈ lw_all := lw_g (lw_at lw_m3 196 rfl) rfl
theorem q784 : (Jvm.Cond.code ({ cls := "AnimationController", name := "target", desc := "()I" } : Jvm.MethodName) prog_1_method_36_code (1 : Nat) (Option.some Jvm.ClassFile.FieldType.int)) ∈ lw_all := lw_g (lw_at lw_m3 197 rfl) rfl
theorem q785 : (Jvm.Cond.methodLink "AnimationController" (321 : Nat) ({ cls := "AnimationController", name := "isInTransition", desc := "()Z" } : Jvm.MethodName)) ∈ lw_all := lw_g (lw_at lw_m3 198 rfl) rfl
theorem q786 : (Jvm.Cond.privateMethod ({ cls := "AnimationController", name := "isInTransition", desc := "()Z" } : Jvm.MethodName)) ∈ lw_tbl := lw_at lw_m3 199 rfl
theorem q787 : (Jvm.Cond.instanceMethod ({ cls := "AnimationController", name := "isInTransition", desc := "()Z" } : Jvm.MethodName)) ∈ lw_all := lw_g (lw_at lw_m3 200 rfl) rfl
theorem q788 : (Jvm.Cond.code ({ cls := "AnimationController", name := "isInTransition", desc := "()Z" } : Jvm.MethodName) prog_1_method_35_code (1 : Nat) (Option.some Jvm.ClassFile.FieldType.boolean)) ∈ lw_all := lw_g (lw_at lw_m3 201 rfl) rfl
theorem q789 : (Jvm.Cond.methodLink "AnimationController" (318 : Nat) ({ cls := "AnimationController$Machine", name := "isIdle", desc := "()Z" } : Jvm.MethodName)) ∈ lw_all := lw_g (lw_at lw_m3 202 rfl) rfl
theorem q794 : (Jvm.Cond.instanceMethod ({ cls := "AnimationController", name := "transition", desc := "()I" } : Jvm.MethodName)) ∈ lw_all := lw_g (lw_at lw_m3 207 rfl) rfl
theorem q795 : (Jvm.Cond.selects "AnimationController" ({ cls := "AnimationController", name := "transition", desc := "()I" } : Jvm.MethodName) ({ cls := "AnimationController", name := "transition", desc := "()I" } : Jvm.MethodName)) ∈ lw_all := lw_g (lw_at lw_m3 208 rfl) rfl
theorem q796 : (Jvm.Cond.code ({ cls := "AnimationController", name := "transition", desc := "()I" } : Jvm.MethodName) prog_1_method_37_code (1 : Nat) (Option.some Jvm.ClassFile.FieldType.int)) ∈ lw_all := lw_g (lw_at lw_m3 209 rfl) rfl
theorem q798 : (Jvm.Cond.instanceMethod ({ cls := "AnimationController", name := "elapsed", desc := "()I" } : Jvm.MethodName)) ∈ lw_all := lw_g (lw_at lw_m3 211 rfl) rfl
theorem q799 : (Jvm.Cond.selects "AnimationController" ({ cls := "AnimationController", name := "elapsed", desc := "()I" } : Jvm.MethodName) ({ cls := "AnimationController", name := "elapsed", desc := "()I" } : Jvm.MethodName)) ∈ lw_all := lw_g (lw_at lw_m3 212 rfl) rfl
theorem q800 : (Jvm.Cond.code ({ cls := "AnimationController", name := "elapsed", desc := "()I" } : Jvm.MethodName) prog_1_method_38_code (1 : Nat) (Option.some Jvm.ClassFile.FieldType.int)) ∈ lw_all := lw_g (lw_at lw_m3 213 rfl) rfl
theorem q802 : (Jvm.Cond.instanceMethod ({ cls := "AnimationController", name := "isFrozen", desc := "()Z" } : Jvm.MethodName)) ∈ lw_all := lw_g (lw_at lw_m3 215 rfl) rfl
theorem q803 : (Jvm.Cond.selects "AnimationController" ({ cls := "AnimationController", name := "isFrozen", desc := "()Z" } : Jvm.MethodName) ({ cls := "AnimationController", name := "isFrozen", desc := "()Z" } : Jvm.MethodName)) ∈ lw_all := lw_g (lw_at lw_m3 216 rfl) rfl
theorem q804 : (Jvm.Cond.code ({ cls := "AnimationController", name := "isFrozen", desc := "()Z" } : Jvm.MethodName) prog_1_method_39_code (1 : Nat) (Option.some Jvm.ClassFile.FieldType.boolean)) ∈ lw_all := lw_g (lw_at lw_m3 217 rfl) rfl
theorem q806 : (Jvm.Cond.instanceMethod ({ cls := "AnimationController", name := "poseSize", desc := "()I" } : Jvm.MethodName)) ∈ lw_all := lw_g (lw_at lw_m3 219 rfl) rfl
theorem q807 : (Jvm.Cond.selects "AnimationController" ({ cls := "AnimationController", name := "poseSize", desc := "()I" } : Jvm.MethodName) ({ cls := "AnimationController", name := "poseSize", desc := "()I" } : Jvm.MethodName)) ∈ lw_all := lw_g (lw_at lw_m3 220 rfl) rfl
theorem q808 : (Jvm.Cond.code ({ cls := "AnimationController", name := "poseSize", desc := "()I" } : Jvm.MethodName) prog_1_method_46_code (1 : Nat) (Option.some Jvm.ClassFile.FieldType.int)) ∈ lw_all := lw_g (lw_at lw_m3 221 rfl) rfl
theorem q809 : (Jvm.Cond.methodLink "AnimationController" (355 : Nat) ({ cls := "AnimationController", name := "present", desc := "()LAnimationController$Pose;" } : Jvm.MethodName)) ∈ lw_all := lw_g (lw_at lw_m3 222 rfl) rfl
theorem q810 : (Jvm.Cond.privateMethod ({ cls := "AnimationController", name := "present", desc := "()LAnimationController$Pose;" } : Jvm.MethodName)) ∈ lw_tbl := lw_at lw_m3 223 rfl
theorem q811 : (Jvm.Cond.instanceMethod ({ cls := "AnimationController", name := "present", desc := "()LAnimationController$Pose;" } : Jvm.MethodName)) ∈ lw_all := lw_g (lw_at lw_m3 224 rfl) rfl
theorem q812 : (Jvm.Cond.code ({ cls := "AnimationController", name := "present", desc := "()LAnimationController$Pose;" } : Jvm.MethodName) prog_1_method_44_code (1 : Nat) (Option.some (Jvm.ClassFile.FieldType.object "AnimationController$Pose"))) ∈ lw_all := lw_g (lw_at lw_m3 225 rfl) rfl
theorem q813 : (Jvm.Cond.methodLink "AnimationController" (352 : Nat) ({ cls := "AnimationController$Machine", name := "poseNow", desc := "()V" } : Jvm.MethodName)) ∈ lw_all := lw_g (lw_at lw_m3 226 rfl) rfl
theorem q826 : (Jvm.Cond.static ({ cls := "AnimationController", name := "share", desc := "(JJJ)I" } : Jvm.MethodName)) ∈ lw_all := lw_g (lw_at lw_m3 239 rfl) rfl
theorem q827 : (Jvm.Cond.code ({ cls := "AnimationController", name := "share", desc := "(JJJ)I" } : Jvm.MethodName) prog_1_method_5_code (6 : Nat) (Option.some Jvm.ClassFile.FieldType.int)) ∈ lw_all := lw_g (lw_at lw_m4 0 rfl) rfl
theorem q849 : (Jvm.Cond.privateMethod ({ cls := "AnimationController", name := "blend", desc := "(LAnimationController$Blend;LAnimationController$Node;I)V" } : Jvm.MethodName)) ∈ lw_tbl := lw_at lw_m4 22 rfl
theorem q850 : (Jvm.Cond.instanceMethod ({ cls := "AnimationController", name := "blend", desc := "(LAnimationController$Blend;LAnimationController$Node;I)V" } : Jvm.MethodName)) ∈ lw_all := lw_g (lw_at lw_m4 23 rfl) rfl
theorem q851 : (Jvm.Cond.code ({ cls := "AnimationController", name := "blend", desc := "(LAnimationController$Blend;LAnimationController$Node;I)V" } : Jvm.MethodName) prog_1_method_29_code (4 : Nat) (Option.none : Option Jvm.ClassFile.FieldType)) ∈ lw_all := lw_g (lw_at lw_m4 24 rfl) rfl
theorem q852 : (Jvm.Cond.methodLink "AnimationController" (273 : Nat) ({ cls := "AnimationController$Blend", name := "clear", desc := "()V" } : Jvm.MethodName)) ∈ lw_all := lw_g (lw_at lw_m4 25 rfl) rfl
theorem q856 : (Jvm.Cond.methodLink "AnimationController" (276 : Nat) ({ cls := "AnimationController$Node", name := "blend", desc := "(LAnimationController$Blend;I)V" } : Jvm.MethodName)) ∈ lw_all := lw_g (lw_at lw_m4 29 rfl) rfl
theorem q881 : (Jvm.Cond.instanceMethod ({ cls := "AnimationController", name := "fired", desc := "()I" } : Jvm.MethodName)) ∈ lw_all := lw_g (lw_at lw_m4 54 rfl) rfl
theorem q882 : (Jvm.Cond.selects "AnimationController" ({ cls := "AnimationController", name := "fired", desc := "()I" } : Jvm.MethodName) ({ cls := "AnimationController", name := "fired", desc := "()I" } : Jvm.MethodName)) ∈ lw_all := lw_g (lw_at lw_m4 55 rfl) rfl
theorem q883 : (Jvm.Cond.code ({ cls := "AnimationController", name := "fired", desc := "()I" } : Jvm.MethodName) prog_1_method_50_code (1 : Nat) (Option.some Jvm.ClassFile.FieldType.int)) ∈ lw_all := lw_g (lw_at lw_m4 56 rfl) rfl
theorem q885 : (Jvm.Cond.instanceMethod ({ cls := "AnimationController", name := "clearText", desc := "()I" } : Jvm.MethodName)) ∈ lw_all := lw_g (lw_at lw_m4 58 rfl) rfl
theorem q886 : (Jvm.Cond.selects "AnimationController" ({ cls := "AnimationController", name := "clearText", desc := "()I" } : Jvm.MethodName) ({ cls := "AnimationController", name := "clearText", desc := "()I" } : Jvm.MethodName)) ∈ lw_all := lw_g (lw_at lw_m4 59 rfl) rfl
theorem q887 : (Jvm.Cond.code ({ cls := "AnimationController", name := "clearText", desc := "()I" } : Jvm.MethodName) prog_1_method_63_code (2 : Nat) (Option.some Jvm.ClassFile.FieldType.int)) ∈ lw_all := lw_g (lw_at lw_m4 60 rfl) rfl
theorem q888 : (Jvm.Cond.methodLink "AnimationController" (449 : Nat) ({ cls := "java/lang/StringBuilder", name := "length", desc := "()I" } : Jvm.MethodName)) ∈ lw_all := lw_g (lw_at lw_m4 61 rfl) rfl
theorem q889 : (Jvm.Cond.methodLink "AnimationController" (456 : Nat) ({ cls := "java/lang/StringBuilder", name := "setLength", desc := "(I)V" } : Jvm.MethodName)) ∈ lw_all := lw_g (lw_at lw_m4 62 rfl) rfl
theorem q958 : (Jvm.Cond.instanceMethod ({ cls := "AnimationController", name := "fault", desc := "()I" } : Jvm.MethodName)) ∈ lw_all := lw_g (lw_at lw_m4 131 rfl) rfl
theorem q959 : (Jvm.Cond.selects "AnimationController" ({ cls := "AnimationController", name := "fault", desc := "()I" } : Jvm.MethodName) ({ cls := "AnimationController", name := "fault", desc := "()I" } : Jvm.MethodName)) ∈ lw_all := lw_g (lw_at lw_m4 132 rfl) rfl
theorem q960 : (Jvm.Cond.code ({ cls := "AnimationController", name := "fault", desc := "()I" } : Jvm.MethodName) prog_1_method_64_code (2 : Nat) (Option.some Jvm.ClassFile.FieldType.int)) ∈ lw_all := lw_g (lw_at lw_m4 133 rfl) rfl
theorem q961 : (Jvm.Cond.classLink "AnimationController" (459 : Nat) "AnimationController$Reader") ∈ lw_all := lw_g (lw_at lw_m4 134 rfl) rfl
theorem q963 : (Jvm.Cond.methodLinkNest "AnimationController" (461 : Nat) ({ cls := "AnimationController$Reader", name := "<init>", desc := "(LAnimationController;)V" } : Jvm.MethodName) "AnimationController") ∈ lw_tbl := lw_at lw_m4 136 rfl
theorem q974 : (Jvm.Cond.fieldLinkNest "AnimationController" (468 : Nat) "AnimationController$Reader" "found" "Ljava/util/ArrayList;" "AnimationController") ∈ lw_tbl := lw_at lw_m4 147 rfl
theorem q976 : (Jvm.Cond.fieldLinkNest "AnimationController" (465 : Nat) "AnimationController$Reader" "at" "I" "AnimationController") ∈ lw_tbl := lw_at lw_m4 149 rfl
theorem q988 : (Jvm.Cond.methodLink "AnimationController" (462 : Nat) ({ cls := "AnimationController$Reader", name := "readsAll", desc := "()Z" } : Jvm.MethodName)) ∈ lw_all := lw_g (lw_at lw_m4 161 rfl) rfl
theorem q1024 : (Jvm.Cond.static ({ cls := "AnimationController", name := "in", desc := "(JJJ)Z" } : Jvm.MethodName)) ∈ lw_all := lw_g (lw_at lw_m4 197 rfl) rfl
theorem q1025 : (Jvm.Cond.code ({ cls := "AnimationController", name := "in", desc := "(JJJ)Z" } : Jvm.MethodName) prog_1_method_1_code (6 : Nat) (Option.some Jvm.ClassFile.FieldType.boolean)) ∈ lw_all := lw_g (lw_at lw_m4 198 rfl) rfl
theorem q1049 : (Jvm.Cond.fieldLinkNest "AnimationController" (241 : Nat) "AnimationController$Transition" "from" "LAnimationController$State;" "AnimationController") ∈ lw_tbl := lw_at lw_m4 222 rfl
theorem q1052 : (Jvm.Cond.fieldLinkNest "AnimationController" (432 : Nat) "AnimationController$Transition" "to" "LAnimationController$State;" "AnimationController") ∈ lw_tbl := lw_at lw_m4 225 rfl
theorem q1058 : (Jvm.Cond.fieldLinkNest "AnimationController" (245 : Nat) "AnimationController$Transition" "exit" "I" "AnimationController") ∈ lw_tbl := lw_at lw_m4 231 rfl
theorem q1061 : (Jvm.Cond.fieldLinkNest "AnimationController" (248 : Nat) "AnimationController$Transition" "start" "I" "AnimationController") ∈ lw_tbl := lw_at lw_m4 234 rfl
theorem q1064 : (Jvm.Cond.fieldLinkNest "AnimationController" (253 : Nat) "AnimationController$Transition" "mode" "I" "AnimationController") ∈ lw_tbl := lw_at lw_m4 237 rfl
theorem q1067 : (Jvm.Cond.fieldLinkNest "AnimationController" (256 : Nat) "AnimationController$Transition" "isOrdered" "Z" "AnimationController") ∈ lw_tbl := lw_at lw_m5 0 rfl
theorem q1071 : (Jvm.Cond.fieldLinkNest "AnimationController" (260 : Nat) "AnimationController$Transition" "many" "I" "AnimationController") ∈ lw_tbl := lw_at lw_m5 4 rfl
theorem q1114 : (Jvm.Cond.selects "AnimationController" ({ cls := "java/lang/Object", name := "getClass", desc := "()Ljava/lang/Class;" } : Jvm.MethodName) ({ cls := "java/lang/Object", name := "getClass", desc := "()Ljava/lang/Class;" } : Jvm.MethodName)) ∈ lw_all := lw_g (lw_at lw_m5 47 rfl) rfl
theorem q1274 : (Jvm.Cond.selects "AnimationController" ({ cls := "java/lang/Object", name := "hashCode", desc := "()I" } : Jvm.MethodName) ({ cls := "java/lang/Object", name := "hashCode", desc := "()I" } : Jvm.MethodName)) ∈ lw_all := lw_g (lw_at lw_m5 207 rfl) rfl
theorem q1371 : (Jvm.Cond.selects "AnimationController" ({ cls := "java/lang/Object", name := "equals", desc := "(Ljava/lang/Object;)Z" } : Jvm.MethodName) ({ cls := "java/lang/Object", name := "equals", desc := "(Ljava/lang/Object;)Z" } : Jvm.MethodName)) ∈ lw_all := lw_g (lw_at lw_m6 64 rfl) rfl
theorem q1868 : (Jvm.Cond.static ({ cls := "AnimationController", name := "testFor", desc := "(II)LAnimationController$Test;" } : Jvm.MethodName)) ∈ lw_all := lw_g (lw_at lw_m8 81 rfl) rfl
theorem q1869 : (Jvm.Cond.code ({ cls := "AnimationController", name := "testFor", desc := "(II)LAnimationController$Test;" } : Jvm.MethodName) prog_1_method_19_code (2 : Nat) (Option.some (Jvm.ClassFile.FieldType.object "AnimationController$Test"))) ∈ lw_all := lw_g (lw_at lw_m8 82 rfl) rfl
theorem q1870 : (Jvm.Cond.static ({ cls := "AnimationController", name := "lambda$testFor$0", desc := "(II)Z" } : Jvm.MethodName)) ∈ lw_all := lw_g (lw_at lw_m8 83 rfl) rfl
theorem q1871 : (Jvm.Cond.code ({ cls := "AnimationController", name := "lambda$testFor$0", desc := "(II)Z" } : Jvm.MethodName) prog_1_method_69_code (2 : Nat) (Option.some Jvm.ClassFile.FieldType.boolean)) ∈ lw_all := lw_g (lw_at lw_m8 84 rfl) rfl
theorem q1872 : (Jvm.Cond.static ({ cls := "AnimationController", name := "lambda$testFor$1", desc := "(II)Z" } : Jvm.MethodName)) ∈ lw_all := lw_g (lw_at lw_m8 85 rfl) rfl
theorem q1873 : (Jvm.Cond.code ({ cls := "AnimationController", name := "lambda$testFor$1", desc := "(II)Z" } : Jvm.MethodName) prog_1_method_68_code (2 : Nat) (Option.some Jvm.ClassFile.FieldType.boolean)) ∈ lw_all := lw_g (lw_at lw_m8 86 rfl) rfl
theorem q1874 : (Jvm.Cond.static ({ cls := "AnimationController", name := "lambda$testFor$2", desc := "(II)Z" } : Jvm.MethodName)) ∈ lw_all := lw_g (lw_at lw_m8 87 rfl) rfl
theorem q1875 : (Jvm.Cond.code ({ cls := "AnimationController", name := "lambda$testFor$2", desc := "(II)Z" } : Jvm.MethodName) prog_1_method_67_code (2 : Nat) (Option.some Jvm.ClassFile.FieldType.boolean)) ∈ lw_all := lw_g (lw_at lw_m8 88 rfl) rfl
theorem q1876 : (Jvm.Cond.static ({ cls := "AnimationController", name := "lambda$testFor$3", desc := "(II)Z" } : Jvm.MethodName)) ∈ lw_all := lw_g (lw_at lw_m8 89 rfl) rfl
theorem q1877 : (Jvm.Cond.code ({ cls := "AnimationController", name := "lambda$testFor$3", desc := "(II)Z" } : Jvm.MethodName) prog_1_method_66_code (2 : Nat) (Option.some Jvm.ClassFile.FieldType.boolean)) ∈ lw_all := lw_g (lw_at lw_m8 90 rfl) rfl
theorem q1905 : (Jvm.Cond.instanceMethod ({ cls := "AnimationController", name := "addParameter", desc := "(I)I" } : Jvm.MethodName)) ∈ lw_all := lw_g (lw_at lw_m8 118 rfl) rfl
theorem q1906 : (Jvm.Cond.selects "AnimationController" ({ cls := "AnimationController", name := "addParameter", desc := "(I)I" } : Jvm.MethodName) ({ cls := "AnimationController", name := "addParameter", desc := "(I)I" } : Jvm.MethodName)) ∈ lw_all := lw_g (lw_at lw_m8 119 rfl) rfl
theorem q1907 : (Jvm.Cond.code ({ cls := "AnimationController", name := "addParameter", desc := "(I)I" } : Jvm.MethodName) prog_1_method_7_code (2 : Nat) (Option.some Jvm.ClassFile.FieldType.int)) ∈ lw_all := lw_g (lw_at lw_m8 120 rfl) rfl
theorem q1908 : (Jvm.Cond.constantLong "AnimationController" (83 : Nat) (2 : Int64)) ∈ lw_all := lw_g (lw_at lw_m8 121 rfl) rfl
theorem q1909 : (Jvm.Cond.methodLink "AnimationController" (12 : Nat) ({ cls := "AnimationController", name := "in", desc := "(JJJ)Z" } : Jvm.MethodName)) ∈ lw_all := lw_g (lw_at lw_m8 122 rfl) rfl
theorem q1910 : (Jvm.Cond.methodLink "AnimationController" (85 : Nat) ({ cls := "AnimationController", name := "require", desc := "(Z)V" } : Jvm.MethodName)) ∈ lw_all := lw_g (lw_at lw_m8 123 rfl) rfl
theorem q1911 : (Jvm.Cond.static ({ cls := "AnimationController", name := "require", desc := "(Z)V" } : Jvm.MethodName)) ∈ lw_all := lw_g (lw_at lw_m8 124 rfl) rfl
theorem q1912 : (Jvm.Cond.code ({ cls := "AnimationController", name := "require", desc := "(Z)V" } : Jvm.MethodName) prog_1_method_2_code (1 : Nat) (Option.none : Option Jvm.ClassFile.FieldType)) ∈ lw_all := lw_g (lw_at lw_m8 125 rfl) rfl
theorem q1913 : (Jvm.Cond.classLink "AnimationController" (3 : Nat) "java/lang/IllegalArgumentException") ∈ lw_all := lw_g (lw_at lw_m8 126 rfl) rfl
theorem q1914 : (Jvm.Cond.methodLink "AnimationController" (5 : Nat) ({ cls := "java/lang/IllegalArgumentException", name := "<init>", desc := "()V" } : Jvm.MethodName)) ∈ lw_all := lw_g (lw_at lw_m8 127 rfl) rfl
theorem q1924 : (Jvm.Cond.methodLink "AnimationController" (93 : Nat) ({ cls := "AnimationController", name := "demand", desc := "(Z)V" } : Jvm.MethodName)) ∈ lw_all := lw_g (lw_at lw_m8 137 rfl) rfl
theorem q1925 : (Jvm.Cond.static ({ cls := "AnimationController", name := "demand", desc := "(Z)V" } : Jvm.MethodName)) ∈ lw_all := lw_g (lw_at lw_m8 138 rfl) rfl
theorem q1926 : (Jvm.Cond.code ({ cls := "AnimationController", name := "demand", desc := "(Z)V" } : Jvm.MethodName) prog_1_method_3_code (1 : Nat) (Option.none : Option Jvm.ClassFile.FieldType)) ∈ lw_all := lw_g (lw_at lw_m8 139 rfl) rfl
theorem q1927 : (Jvm.Cond.classLink "AnimationController" (9 : Nat) "java/lang/IllegalStateException") ∈ lw_all := lw_g (lw_at lw_m8 140 rfl) rfl
theorem q1936 : (Jvm.Cond.methodLink "AnimationController" (11 : Nat) ({ cls := "java/lang/IllegalStateException", name := "<init>", desc := "()V" } : Jvm.MethodName)) ∈ lw_all := lw_g (lw_at lw_m8 149 rfl) rfl
theorem q1943 : (Jvm.Cond.methodLink "AnimationController" (98 : Nat) ({ cls := "AnimationController$Parameter", name := "<init>", desc := "(I)V" } : Jvm.MethodName)) ∈ lw_all := lw_g (lw_at lw_m8 156 rfl) rfl
theorem q1950 : (Jvm.Cond.fieldLinkNest "AnimationController" (154 : Nat) "AnimationController$Parameter" "kind" "I" "AnimationController") ∈ lw_tbl := lw_at lw_m8 163 rfl
theorem q1954 : (Jvm.Cond.fieldLinkNest "AnimationController" (119 : Nat) "AnimationController$Parameter" "value" "I" "AnimationController") ∈ lw_tbl := lw_at lw_m8 167 rfl
theorem q1960 : (Jvm.Cond.methodLink "AnimationController" (99 : Nat) ({ cls := "java/util/ArrayList", name := "add", desc := "(Ljava/lang/Object;)Z" } : Jvm.MethodName)) ∈ lw_all := lw_g (lw_at lw_m8 173 rfl) rfl
theorem q1968 : (Jvm.Cond.instanceMethod ({ cls := "AnimationController", name := "set", desc := "(II)I" } : Jvm.MethodName)) ∈ lw_all := lw_g (lw_at lw_m8 181 rfl) rfl
theorem q1969 : (Jvm.Cond.selects "AnimationController" ({ cls := "AnimationController", name := "set", desc := "(II)I" } : Jvm.MethodName) ({ cls := "AnimationController", name := "set", desc := "(II)I" } : Jvm.MethodName)) ∈ lw_all := lw_g (lw_at lw_m8 182 rfl) rfl
theorem q1970 : (Jvm.Cond.code ({ cls := "AnimationController", name := "set", desc := "(II)I" } : Jvm.MethodName) prog_1_method_9_code (5 : Nat) (Option.some Jvm.ClassFile.FieldType.int)) ∈ lw_all := lw_g (lw_at lw_m8 183 rfl) rfl
theorem q1971 : (Jvm.Cond.methodLink "AnimationController" (111 : Nat) ({ cls := "AnimationController", name := "parameter", desc := "(I)LAnimationController$Parameter;" } : Jvm.MethodName)) ∈ lw_all := lw_g (lw_at lw_m8 184 rfl) rfl
theorem q1972 : (Jvm.Cond.privateMethod ({ cls := "AnimationController", name := "parameter", desc := "(I)LAnimationController$Parameter;" } : Jvm.MethodName)) ∈ lw_tbl := lw_at lw_m8 185 rfl
theorem q1973 : (Jvm.Cond.instanceMethod ({ cls := "AnimationController", name := "parameter", desc := "(I)LAnimationController$Parameter;" } : Jvm.MethodName)) ∈ lw_all := lw_g (lw_at lw_m8 186 rfl) rfl
theorem q1974 : (Jvm.Cond.code ({ cls := "AnimationController", name := "parameter", desc := "(I)LAnimationController$Parameter;" } : Jvm.MethodName) prog_1_method_8_code (2 : Nat) (Option.some (Jvm.ClassFile.FieldType.object "AnimationController$Parameter"))) ∈ lw_all := lw_g (lw_at lw_m8 187 rfl) rfl
theorem q1975 : (Jvm.Cond.methodLink "AnimationController" (103 : Nat) ({ cls := "AnimationController", name := "checkIndex", desc := "(II)V" } : Jvm.MethodName)) ∈ lw_all := lw_g (lw_at lw_m8 188 rfl) rfl
theorem q1976 : (Jvm.Cond.static ({ cls := "AnimationController", name := "checkIndex", desc := "(II)V" } : Jvm.MethodName)) ∈ lw_all := lw_g (lw_at lw_m8 189 rfl) rfl
theorem q1977 : (Jvm.Cond.code ({ cls := "AnimationController", name := "checkIndex", desc := "(II)V" } : Jvm.MethodName) prog_1_method_4_code (2 : Nat) (Option.none : Option Jvm.ClassFile.FieldType)) ∈ lw_all := lw_g (lw_at lw_m8 190 rfl) rfl
theorem q1978 : (Jvm.Cond.classLink "AnimationController" (16 : Nat) "java/lang/IndexOutOfBoundsException") ∈ lw_all := lw_g (lw_at lw_m8 191 rfl) rfl
theorem q1987 : (Jvm.Cond.methodLink "AnimationController" (18 : Nat) ({ cls := "java/lang/IndexOutOfBoundsException", name := "<init>", desc := "()V" } : Jvm.MethodName)) ∈ lw_all := lw_g (lw_at lw_m8 200 rfl) rfl
theorem q1993 : (Jvm.Cond.methodLink "AnimationController" (115 : Nat) ({ cls := "AnimationController$Parameter", name := "takes", desc := "(I)Z" } : Jvm.MethodName)) ∈ lw_all := lw_g (lw_at lw_m8 206 rfl) rfl
theorem q2004 : (Jvm.Cond.instanceMethod ({ cls := "AnimationController", name := "value", desc := "(I)I" } : Jvm.MethodName)) ∈ lw_all := lw_g (lw_at lw_m8 217 rfl) rfl
theorem q2005 : (Jvm.Cond.selects "AnimationController" ({ cls := "AnimationController", name := "value", desc := "(I)I" } : Jvm.MethodName) ({ cls := "AnimationController", name := "value", desc := "(I)I" } : Jvm.MethodName)) ∈ lw_all := lw_g (lw_at lw_m8 218 rfl) rfl
theorem q2006 : (Jvm.Cond.code ({ cls := "AnimationController", name := "value", desc := "(I)I" } : Jvm.MethodName) prog_1_method_10_code (2 : Nat) (Option.some Jvm.ClassFile.FieldType.int)) ∈ lw_all := lw_g (lw_at lw_m8 219 rfl) rfl
theorem q2011 : (Jvm.Cond.instanceMethod ({ cls := "AnimationController", name := "addClip", desc := "(I)I" } : Jvm.MethodName)) ∈ lw_all := lw_g (lw_at lw_m8 224 rfl) rfl
theorem q2012 : (Jvm.Cond.selects "AnimationController" ({ cls := "AnimationController", name := "addClip", desc := "(I)I" } : Jvm.MethodName) ({ cls := "AnimationController", name := "addClip", desc := "(I)I" } : Jvm.MethodName)) ∈ lw_all := lw_g (lw_at lw_m8 225 rfl) rfl
theorem q2013 : (Jvm.Cond.code ({ cls := "AnimationController", name := "addClip", desc := "(I)I" } : Jvm.MethodName) prog_1_method_11_code (2 : Nat) (Option.some Jvm.ClassFile.FieldType.int)) ∈ lw_all := lw_g (lw_at lw_m8 226 rfl) rfl
theorem q2014 : (Jvm.Cond.constantLong "AnimationController" (122 : Nat) (500 : Int64)) ∈ lw_all := lw_g (lw_at lw_m8 227 rfl) rfl
theorem q2015 : (Jvm.Cond.classLink "AnimationController" (124 : Nat) "AnimationController$Clip") ∈ lw_all := lw_g (lw_at lw_m8 228 rfl) rfl
theorem q2017 : (Jvm.Cond.methodLink "AnimationController" (126 : Nat) ({ cls := "AnimationController$Clip", name := "<init>", desc := "(II)V" } : Jvm.MethodName)) ∈ lw_all := lw_g (lw_at lw_m8 230 rfl) rfl
theorem q2028 : (Jvm.Cond.fieldLinkNest "AnimationController" (132 : Nat) "AnimationController$Clip" "length" "I" "AnimationController") ∈ lw_tbl := lw_at lw_m9 1 rfl
theorem q2031 : (Jvm.Cond.fieldLinkNest "AnimationController" (137 : Nat) "AnimationController$Clip" "events" "Ljava/util/ArrayList;" "AnimationController") ∈ lw_tbl := lw_at lw_m9 4 rfl
theorem q2044 : (Jvm.Cond.instanceMethod ({ cls := "AnimationController", name := "addEvent", desc := "(III)I" } : Jvm.MethodName)) ∈ lw_all := lw_g (lw_at lw_m9 17 rfl) rfl
theorem q2045 : (Jvm.Cond.selects "AnimationController" ({ cls := "AnimationController", name := "addEvent", desc := "(III)I" } : Jvm.MethodName) ({ cls := "AnimationController", name := "addEvent", desc := "(III)I" } : Jvm.MethodName)) ∈ lw_all := lw_g (lw_at lw_m9 18 rfl) rfl
theorem q2046 : (Jvm.Cond.code ({ cls := "AnimationController", name := "addEvent", desc := "(III)I" } : Jvm.MethodName) prog_1_method_13_code (5 : Nat) (Option.some Jvm.ClassFile.FieldType.int)) ∈ lw_all := lw_g (lw_at lw_m9 19 rfl) rfl
theorem q2047 : (Jvm.Cond.methodLink "AnimationController" (128 : Nat) ({ cls := "AnimationController", name := "clip", desc := "(I)LAnimationController$Clip;" } : Jvm.MethodName)) ∈ lw_all := lw_g (lw_at lw_m9 20 rfl) rfl
theorem q2048 : (Jvm.Cond.privateMethod ({ cls := "AnimationController", name := "clip", desc := "(I)LAnimationController$Clip;" } : Jvm.MethodName)) ∈ lw_tbl := lw_at lw_m9 21 rfl
theorem q2049 : (Jvm.Cond.instanceMethod ({ cls := "AnimationController", name := "clip", desc := "(I)LAnimationController$Clip;" } : Jvm.MethodName)) ∈ lw_all := lw_g (lw_at lw_m9 22 rfl) rfl
theorem q2050 : (Jvm.Cond.code ({ cls := "AnimationController", name := "clip", desc := "(I)LAnimationController$Clip;" } : Jvm.MethodName) prog_1_method_12_code (2 : Nat) (Option.some (Jvm.ClassFile.FieldType.object "AnimationController$Clip"))) ∈ lw_all := lw_g (lw_at lw_m9 23 rfl) rfl
theorem q2051 : (Jvm.Cond.constantLong "AnimationController" (135 : Nat) (99 : Int64)) ∈ lw_all := lw_g (lw_at lw_m9 24 rfl) rfl
theorem q2052 : (Jvm.Cond.classLink "AnimationController" (139 : Nat) "AnimationController$Event") ∈ lw_all := lw_g (lw_at lw_m9 25 rfl) rfl
theorem q2054 : (Jvm.Cond.methodLink "AnimationController" (141 : Nat) ({ cls := "AnimationController$Event", name := "<init>", desc := "(II)V" } : Jvm.MethodName)) ∈ lw_all := lw_g (lw_at lw_m9 27 rfl) rfl
theorem q2068 : (Jvm.Cond.methodLink "AnimationController" (142 : Nat) ({ cls := "AnimationController$Clip", name := "add", desc := "(LAnimationController$Event;)V" } : Jvm.MethodName)) ∈ lw_all := lw_g (lw_at lw_m9 41 rfl) rfl
theorem q2096 : (Jvm.Cond.instanceMethod ({ cls := "AnimationController", name := "addClipNode", desc := "(I)I" } : Jvm.MethodName)) ∈ lw_all := lw_g (lw_at lw_m9 69 rfl) rfl
theorem q2097 : (Jvm.Cond.selects "AnimationController" ({ cls := "AnimationController", name := "addClipNode", desc := "(I)I" } : Jvm.MethodName) ({ cls := "AnimationController", name := "addClipNode", desc := "(I)I" } : Jvm.MethodName)) ∈ lw_all := lw_g (lw_at lw_m9 70 rfl) rfl
theorem q2098 : (Jvm.Cond.code ({ cls := "AnimationController", name := "addClipNode", desc := "(I)I" } : Jvm.MethodName) prog_1_method_15_code (3 : Nat) (Option.some Jvm.ClassFile.FieldType.int)) ∈ lw_all := lw_g (lw_at lw_m9 71 rfl) rfl
theorem q2099 : (Jvm.Cond.classLink "AnimationController" (145 : Nat) "AnimationController$ClipNode") ∈ lw_all := lw_g (lw_at lw_m9 72 rfl) rfl
theorem q2101 : (Jvm.Cond.methodLink "AnimationController" (147 : Nat) ({ cls := "AnimationController$ClipNode", name := "<init>", desc := "(LAnimationController$Clip;)V" } : Jvm.MethodName)) ∈ lw_all := lw_g (lw_at lw_m9 74 rfl) rfl
theorem q2112 : (Jvm.Cond.methodLink "AnimationController" (150 : Nat) ({ cls := "AnimationController", name := "addNode", desc := "(LAnimationController$Node;)I" } : Jvm.MethodName)) ∈ lw_all := lw_g (lw_at lw_m9 85 rfl) rfl
theorem q2113 : (Jvm.Cond.privateMethod ({ cls := "AnimationController", name := "addNode", desc := "(LAnimationController$Node;)I" } : Jvm.MethodName)) ∈ lw_tbl := lw_at lw_m9 86 rfl
theorem q2114 : (Jvm.Cond.instanceMethod ({ cls := "AnimationController", name := "addNode", desc := "(LAnimationController$Node;)I" } : Jvm.MethodName)) ∈ lw_all := lw_g (lw_at lw_m9 87 rfl) rfl
theorem q2115 : (Jvm.Cond.code ({ cls := "AnimationController", name := "addNode", desc := "(LAnimationController$Node;)I" } : Jvm.MethodName) prog_1_method_14_code (2 : Nat) (Option.some Jvm.ClassFile.FieldType.int)) ∈ lw_all := lw_g (lw_at lw_m9 88 rfl) rfl
theorem q2120 : (Jvm.Cond.instanceMethod ({ cls := "AnimationController", name := "addLine", desc := "(I)I" } : Jvm.MethodName)) ∈ lw_all := lw_g (lw_at lw_m9 93 rfl) rfl
theorem q2121 : (Jvm.Cond.selects "AnimationController" ({ cls := "AnimationController", name := "addLine", desc := "(I)I" } : Jvm.MethodName) ({ cls := "AnimationController", name := "addLine", desc := "(I)I" } : Jvm.MethodName)) ∈ lw_all := lw_g (lw_at lw_m9 94 rfl) rfl
theorem q2122 : (Jvm.Cond.code ({ cls := "AnimationController", name := "addLine", desc := "(I)I" } : Jvm.MethodName) prog_1_method_16_code (3 : Nat) (Option.some Jvm.ClassFile.FieldType.int)) ∈ lw_all := lw_g (lw_at lw_m9 95 rfl) rfl
theorem q2123 : (Jvm.Cond.classLink "AnimationController" (157 : Nat) "AnimationController$Line") ∈ lw_all := lw_g (lw_at lw_m9 96 rfl) rfl
theorem q2125 : (Jvm.Cond.methodLink "AnimationController" (159 : Nat) ({ cls := "AnimationController$Line", name := "<init>", desc := "(LAnimationController$Parameter;)V" } : Jvm.MethodName)) ∈ lw_all := lw_g (lw_at lw_m9 98 rfl) rfl
theorem q2135 : (Jvm.Cond.fieldLinkNest "AnimationController" (171 : Nat) "AnimationController$Line" "many" "I" "AnimationController") ∈ lw_tbl := lw_at lw_m9 108 rfl
theorem q2149 : (Jvm.Cond.instanceMethod ({ cls := "AnimationController", name := "addChild", desc := "(III)I" } : Jvm.MethodName)) ∈ lw_all := lw_g (lw_at lw_m9 122 rfl) rfl
theorem q2150 : (Jvm.Cond.selects "AnimationController" ({ cls := "AnimationController", name := "addChild", desc := "(III)I" } : Jvm.MethodName) ({ cls := "AnimationController", name := "addChild", desc := "(III)I" } : Jvm.MethodName)) ∈ lw_all := lw_g (lw_at lw_m9 123 rfl) rfl
theorem q2151 : (Jvm.Cond.code ({ cls := "AnimationController", name := "addChild", desc := "(III)I" } : Jvm.MethodName) prog_1_method_18_code (7 : Nat) (Option.some Jvm.ClassFile.FieldType.int)) ∈ lw_all := lw_g (lw_at lw_m9 124 rfl) rfl
theorem q2152 : (Jvm.Cond.constantLong "AnimationController" (167 : Nat) (-100 : Int64)) ∈ lw_all := lw_g (lw_at lw_m9 125 rfl) rfl
theorem q2153 : (Jvm.Cond.constantLong "AnimationController" (169 : Nat) (100 : Int64)) ∈ lw_all := lw_g (lw_at lw_m9 126 rfl) rfl
theorem q2154 : (Jvm.Cond.classLink "AnimationController" (162 : Nat) "AnimationController$Node") ∈ lw_all := lw_g (lw_at lw_m9 127 rfl) rfl
theorem q2155 : (Jvm.Cond.methodLink "AnimationController" (174 : Nat) ({ cls := "AnimationController$Line", name := "hasAt", desc := "(I)Z" } : Jvm.MethodName)) ∈ lw_all := lw_g (lw_at lw_m9 128 rfl) rfl
theorem q2159 : (Jvm.Cond.methodLink "AnimationController" (177 : Nat) ({ cls := "AnimationController$Node", name := "isComplete", desc := "()Z" } : Jvm.MethodName)) ∈ lw_all := lw_g (lw_at lw_m9 132 rfl) rfl
theorem q2168 : (Jvm.Cond.methodLink "AnimationController" (181 : Nat) ({ cls := "AnimationController$Line", name := "add", desc := "(LAnimationController$Node;I)I" } : Jvm.MethodName)) ∈ lw_all := lw_g (lw_at lw_m9 141 rfl) rfl
theorem q2172 : (Jvm.Cond.methodLink "AnimationController" (184 : Nat) ({ cls := "AnimationController", name := "isTooDeep", desc := "()Z" } : Jvm.MethodName)) ∈ lw_all := lw_g (lw_at lw_m9 145 rfl) rfl
theorem q2173 : (Jvm.Cond.privateMethod ({ cls := "AnimationController", name := "isTooDeep", desc := "()Z" } : Jvm.MethodName)) ∈ lw_tbl := lw_at lw_m9 146 rfl
theorem q2174 : (Jvm.Cond.instanceMethod ({ cls := "AnimationController", name := "isTooDeep", desc := "()Z" } : Jvm.MethodName)) ∈ lw_all := lw_g (lw_at lw_m9 147 rfl) rfl
theorem q2175 : (Jvm.Cond.code ({ cls := "AnimationController", name := "isTooDeep", desc := "()Z" } : Jvm.MethodName) prog_1_method_17_code (3 : Nat) (Option.some Jvm.ClassFile.FieldType.boolean)) ∈ lw_all := lw_g (lw_at lw_m9 148 rfl) rfl
theorem q2176 : (Jvm.Cond.methodLink "AnimationController" (164 : Nat) ({ cls := "AnimationController$Node", name := "depth", desc := "()I" } : Jvm.MethodName)) ∈ lw_all := lw_g (lw_at lw_m9 149 rfl) rfl
theorem q2187 : (Jvm.Cond.methodLink "AnimationController" (187 : Nat) ({ cls := "AnimationController$Line", name := "remove", desc := "(I)V" } : Jvm.MethodName)) ∈ lw_all := lw_g (lw_at lw_m9 160 rfl) rfl
theorem q2195 : (Jvm.Cond.instanceMethod ({ cls := "AnimationController", name := "addState", desc := "(IIZI)I" } : Jvm.MethodName)) ∈ lw_all := lw_g (lw_at lw_m9 168 rfl) rfl
theorem q2196 : (Jvm.Cond.selects "AnimationController" ({ cls := "AnimationController", name := "addState", desc := "(IIZI)I" } : Jvm.MethodName) ({ cls := "AnimationController", name := "addState", desc := "(IIZI)I" } : Jvm.MethodName)) ∈ lw_all := lw_g (lw_at lw_m9 169 rfl) rfl
theorem q2197 : (Jvm.Cond.code ({ cls := "AnimationController", name := "addState", desc := "(IIZI)I" } : Jvm.MethodName) prog_1_method_20_code (6 : Nat) (Option.some Jvm.ClassFile.FieldType.int)) ∈ lw_all := lw_g (lw_at lw_m9 170 rfl) rfl
theorem q2198 : (Jvm.Cond.constantLong "AnimationController" (197 : Nat) (400 : Int64)) ∈ lw_all := lw_g (lw_at lw_m9 171 rfl) rfl
theorem q2199 : (Jvm.Cond.constantLong "AnimationController" (199 : Nat) (3 : Int64)) ∈ lw_all := lw_g (lw_at lw_m9 172 rfl) rfl
theorem q2201 : (Jvm.Cond.methodLink "AnimationController" (203 : Nat) ({ cls := "AnimationController$State", name := "<init>", desc := "(ILAnimationController$Node;IZI)V" } : Jvm.MethodName)) ∈ lw_all := lw_g (lw_at lw_m9 174 rfl) rfl
theorem q2206 : (Jvm.Cond.fieldLinkNest "AnimationController" (215 : Nat) "AnimationController$State" "number" "I" "AnimationController") ∈ lw_tbl := lw_at lw_m9 179 rfl
theorem q2210 : (Jvm.Cond.fieldLinkNest "AnimationController" (280 : Nat) "AnimationController$State" "motion" "LAnimationController$Node;" "AnimationController") ∈ lw_tbl := lw_at lw_m9 183 rfl
theorem q2232 : (Jvm.Cond.instanceMethod ({ cls := "AnimationController", name := "addTransition", desc := "(III)I" } : Jvm.MethodName)) ∈ lw_all := lw_g (lw_at lw_m9 205 rfl) rfl
theorem q2233 : (Jvm.Cond.selects "AnimationController" ({ cls := "AnimationController", name := "addTransition", desc := "(III)I" } : Jvm.MethodName) ({ cls := "AnimationController", name := "addTransition", desc := "(III)I" } : Jvm.MethodName)) ∈ lw_all := lw_g (lw_at lw_m9 206 rfl) rfl
theorem q2234 : (Jvm.Cond.code ({ cls := "AnimationController", name := "addTransition", desc := "(III)I" } : Jvm.MethodName) prog_1_method_23_code (6 : Nat) (Option.some Jvm.ClassFile.FieldType.int)) ∈ lw_all := lw_g (lw_at lw_m9 207 rfl) rfl
theorem q2235 : (Jvm.Cond.methodLink "AnimationController" (218 : Nat) ({ cls := "AnimationController", name := "stateAt", desc := "(I)LAnimationController$State;" } : Jvm.MethodName)) ∈ lw_all := lw_g (lw_at lw_m9 208 rfl) rfl
theorem q2236 : (Jvm.Cond.privateMethod ({ cls := "AnimationController", name := "stateAt", desc := "(I)LAnimationController$State;" } : Jvm.MethodName)) ∈ lw_tbl := lw_at lw_m9 209 rfl
theorem q2237 : (Jvm.Cond.instanceMethod ({ cls := "AnimationController", name := "stateAt", desc := "(I)LAnimationController$State;" } : Jvm.MethodName)) ∈ lw_all := lw_g (lw_at lw_m9 210 rfl) rfl
theorem q2238 : (Jvm.Cond.code ({ cls := "AnimationController", name := "stateAt", desc := "(I)LAnimationController$State;" } : Jvm.MethodName) prog_1_method_21_code (2 : Nat) (Option.some (Jvm.ClassFile.FieldType.object "AnimationController$State"))) ∈ lw_all := lw_g (lw_at lw_m9 211 rfl) rfl
theorem q2239 : (Jvm.Cond.constantLong "AnimationController" (222 : Nat) (60 : Int64)) ∈ lw_all := lw_g (lw_at lw_m9 212 rfl) rfl
theorem q2240 : (Jvm.Cond.classLink "AnimationController" (224 : Nat) "AnimationController$Transition") ∈ lw_all := lw_g (lw_at lw_m9 213 rfl) rfl
theorem q2241 : (Jvm.Cond.methodLink "AnimationController" (226 : Nat) ({ cls := "AnimationController$Transition", name := "<init>", desc := "(LAnimationController$State;LAnimationController$State;I)V" } : Jvm.MethodName)) ∈ lw_all := lw_g (lw_at lw_m9 214 rfl) rfl
theorem q2242 : (Jvm.Cond.methodLink "AnimationController" (229 : Nat) ({ cls := "AnimationController", name := "append", desc := "(LAnimationController$Transition;)I" } : Jvm.MethodName)) ∈ lw_all := lw_g (lw_at lw_m9 215 rfl) rfl
theorem q2243 : (Jvm.Cond.privateMethod ({ cls := "AnimationController", name := "append", desc := "(LAnimationController$Transition;)I" } : Jvm.MethodName)) ∈ lw_tbl := lw_at lw_m9 216 rfl
theorem q2244 : (Jvm.Cond.instanceMethod ({ cls := "AnimationController", name := "append", desc := "(LAnimationController$Transition;)I" } : Jvm.MethodName)) ∈ lw_all := lw_g (lw_at lw_m9 217 rfl) rfl
theorem q2245 : (Jvm.Cond.code ({ cls := "AnimationController", name := "append", desc := "(LAnimationController$Transition;)I" } : Jvm.MethodName) prog_1_method_22_code (2 : Nat) (Option.some Jvm.ClassFile.FieldType.int)) ∈ lw_all := lw_g (lw_at lw_m9 218 rfl) rfl
theorem q2250 : (Jvm.Cond.instanceMethod ({ cls := "AnimationController", name := "setTiming", desc := "(III)I" } : Jvm.MethodName)) ∈ lw_all := lw_g (lw_at lw_m9 223 rfl) rfl
theorem q2251 : (Jvm.Cond.selects "AnimationController" ({ cls := "AnimationController", name := "setTiming", desc := "(III)I" } : Jvm.MethodName) ({ cls := "AnimationController", name := "setTiming", desc := "(III)I" } : Jvm.MethodName)) ∈ lw_all := lw_g (lw_at lw_m9 224 rfl) rfl
theorem q2252 : (Jvm.Cond.code ({ cls := "AnimationController", name := "setTiming", desc := "(III)I" } : Jvm.MethodName) prog_1_method_25_code (6 : Nat) (Option.some Jvm.ClassFile.FieldType.int)) ∈ lw_all := lw_g (lw_at lw_m9 225 rfl) rfl
theorem q2253 : (Jvm.Cond.methodLink "AnimationController" (233 : Nat) ({ cls := "AnimationController", name := "transitionAt", desc := "(I)LAnimationController$Transition;" } : Jvm.MethodName)) ∈ lw_all := lw_g (lw_at lw_m9 226 rfl) rfl
theorem q2254 : (Jvm.Cond.privateMethod ({ cls := "AnimationController", name := "transitionAt", desc := "(I)LAnimationController$Transition;" } : Jvm.MethodName)) ∈ lw_tbl := lw_at lw_m9 227 rfl
theorem q2255 : (Jvm.Cond.instanceMethod ({ cls := "AnimationController", name := "transitionAt", desc := "(I)LAnimationController$Transition;" } : Jvm.MethodName)) ∈ lw_all := lw_g (lw_at lw_m9 228 rfl) rfl
theorem q2256 : (Jvm.Cond.code ({ cls := "AnimationController", name := "transitionAt", desc := "(I)LAnimationController$Transition;" } : Jvm.MethodName) prog_1_method_24_code (2 : Nat) (Option.some (Jvm.ClassFile.FieldType.object "AnimationController$Transition"))) ∈ lw_all := lw_g (lw_at lw_m9 229 rfl) rfl
theorem q2257 : (Jvm.Cond.constantLong "AnimationController" (237 : Nat) (-1 : Int64)) ∈ lw_all := lw_g (lw_at lw_m9 230 rfl) rfl
theorem q2258 : (Jvm.Cond.constantLong "AnimationController" (239 : Nat) (300 : Int64)) ∈ lw_all := lw_g (lw_at lw_m9 231 rfl) rfl
theorem q2263 : (Jvm.Cond.instanceMethod ({ cls := "AnimationController", name := "setInterruption", desc := "(IIZ)I" } : Jvm.MethodName)) ∈ lw_all := lw_g (lw_at lw_m9 236 rfl) rfl
theorem q2264 : (Jvm.Cond.selects "AnimationController" ({ cls := "AnimationController", name := "setInterruption", desc := "(IIZ)I" } : Jvm.MethodName) ({ cls := "AnimationController", name := "setInterruption", desc := "(IIZ)I" } : Jvm.MethodName)) ∈ lw_all := lw_g (lw_at lw_m9 237 rfl) rfl
theorem q2265 : (Jvm.Cond.code ({ cls := "AnimationController", name := "setInterruption", desc := "(IIZ)I" } : Jvm.MethodName) prog_1_method_26_code (6 : Nat) (Option.some Jvm.ClassFile.FieldType.int)) ∈ lw_all := lw_g (lw_at lw_m9 238 rfl) rfl
theorem q2266 : (Jvm.Cond.constantLong "AnimationController" (251 : Nat) (4 : Int64)) ∈ lw_all := lw_g (lw_at lw_m9 239 rfl) rfl
theorem q2271 : (Jvm.Cond.instanceMethod ({ cls := "AnimationController", name := "addCondition", desc := "(IIII)I" } : Jvm.MethodName)) ∈ lw_all := lw_g (lw_at lw_m10 4 rfl) rfl
theorem q2272 : (Jvm.Cond.selects "AnimationController" ({ cls := "AnimationController", name := "addCondition", desc := "(IIII)I" } : Jvm.MethodName) ({ cls := "AnimationController", name := "addCondition", desc := "(IIII)I" } : Jvm.MethodName)) ∈ lw_all := lw_g (lw_at lw_m10 5 rfl) rfl
theorem q2273 : (Jvm.Cond.code ({ cls := "AnimationController", name := "addCondition", desc := "(IIII)I" } : Jvm.MethodName) prog_1_method_27_code (7 : Nat) (Option.some Jvm.ClassFile.FieldType.int)) ∈ lw_all := lw_g (lw_at lw_m10 6 rfl) rfl
theorem q2274 : (Jvm.Cond.classLink "AnimationController" (261 : Nat) "AnimationController$Condition") ∈ lw_all := lw_g (lw_at lw_m10 7 rfl) rfl
theorem q2275 : (Jvm.Cond.methodLink "AnimationController" (263 : Nat) ({ cls := "AnimationController", name := "testFor", desc := "(II)LAnimationController$Test;" } : Jvm.MethodName)) ∈ lw_all := lw_g (lw_at lw_m10 8 rfl) rfl
theorem q2276 : (Jvm.Cond.methodLink "AnimationController" (267 : Nat) ({ cls := "AnimationController$Condition", name := "<init>", desc := "(LAnimationController$Parameter;LAnimationController$Test;)V" } : Jvm.MethodName)) ∈ lw_all := lw_g (lw_at lw_m10 9 rfl) rfl
theorem q2277 : (Jvm.Cond.methodLink "AnimationController" (270 : Nat) ({ cls := "AnimationController$Transition", name := "add", desc := "(LAnimationController$Condition;)V" } : Jvm.MethodName)) ∈ lw_all := lw_g (lw_at lw_m10 10 rfl) rfl
theorem q2282 : (Jvm.Cond.instanceMethod ({ cls := "AnimationController", name := "setThreshold", desc := "(I)I" } : Jvm.MethodName)) ∈ lw_all := lw_g (lw_at lw_m10 15 rfl) rfl
theorem q2283 : (Jvm.Cond.selects "AnimationController" ({ cls := "AnimationController", name := "setThreshold", desc := "(I)I" } : Jvm.MethodName) ({ cls := "AnimationController", name := "setThreshold", desc := "(I)I" } : Jvm.MethodName)) ∈ lw_all := lw_g (lw_at lw_m10 16 rfl) rfl
theorem q2284 : (Jvm.Cond.code ({ cls := "AnimationController", name := "setThreshold", desc := "(I)I" } : Jvm.MethodName) prog_1_method_28_code (3 : Nat) (Option.some Jvm.ClassFile.FieldType.int)) ∈ lw_all := lw_g (lw_at lw_m10 17 rfl) rfl
theorem q2289 : (Jvm.Cond.instanceMethod ({ cls := "AnimationController", name := "type", desc := "(I)I" } : Jvm.MethodName)) ∈ lw_all := lw_g (lw_at lw_m10 22 rfl) rfl
theorem q2290 : (Jvm.Cond.selects "AnimationController" ({ cls := "AnimationController", name := "type", desc := "(I)I" } : Jvm.MethodName) ({ cls := "AnimationController", name := "type", desc := "(I)I" } : Jvm.MethodName)) ∈ lw_all := lw_g (lw_at lw_m10 23 rfl) rfl
theorem q2291 : (Jvm.Cond.code ({ cls := "AnimationController", name := "type", desc := "(I)I" } : Jvm.MethodName) prog_1_method_62_code (2 : Nat) (Option.some Jvm.ClassFile.FieldType.int)) ∈ lw_all := lw_g (lw_at lw_m10 24 rfl) rfl
theorem q2292 : (Jvm.Cond.constantLong "AnimationController" (451 : Nat) (255 : Int64)) ∈ lw_all := lw_g (lw_at lw_m10 25 rfl) rfl
theorem q2293 : (Jvm.Cond.methodLink "AnimationController" (453 : Nat) ({ cls := "java/lang/StringBuilder", name := "append", desc := "(C)Ljava/lang/StringBuilder;" } : Jvm.MethodName)) ∈ lw_all := lw_g (lw_at lw_m10 26 rfl) rfl
theorem q2314 : (Jvm.Cond.instanceMethod ({ cls := "AnimationController", name := "load", desc := "()I" } : Jvm.MethodName)) ∈ lw_all := lw_g (lw_at lw_m10 47 rfl) rfl
theorem q2315 : (Jvm.Cond.selects "AnimationController" ({ cls := "AnimationController", name := "load", desc := "()I" } : Jvm.MethodName) ({ cls := "AnimationController", name := "load", desc := "()I" } : Jvm.MethodName)) ∈ lw_all := lw_g (lw_at lw_m10 48 rfl) rfl
theorem q2316 : (Jvm.Cond.code ({ cls := "AnimationController", name := "load", desc := "()I" } : Jvm.MethodName) prog_1_method_65_code (3 : Nat) (Option.some Jvm.ClassFile.FieldType.int)) ∈ lw_all := lw_g (lw_at lw_m10 49 rfl) rfl
theorem q2321 : (Jvm.Cond.instanceMethod ({ cls := "AnimationController", name := "tick", desc := "(I)I" } : Jvm.MethodName)) ∈ lw_all := lw_g (lw_at lw_m10 54 rfl) rfl
theorem q2322 : (Jvm.Cond.selects "AnimationController" ({ cls := "AnimationController", name := "tick", desc := "(I)I" } : Jvm.MethodName) ({ cls := "AnimationController", name := "tick", desc := "(I)I" } : Jvm.MethodName)) ∈ lw_all := lw_g (lw_at lw_m10 55 rfl) rfl
theorem q2323 : (Jvm.Cond.code ({ cls := "AnimationController", name := "tick", desc := "(I)I" } : Jvm.MethodName) prog_1_method_32_code (5 : Nat) (Option.some Jvm.ClassFile.FieldType.int)) ∈ lw_all := lw_g (lw_at lw_m10 56 rfl) rfl
theorem q2324 : (Jvm.Cond.methodLink "AnimationController" (299 : Nat) ({ cls := "AnimationController", name := "running", desc := "()LAnimationController$Machine;" } : Jvm.MethodName)) ∈ lw_all := lw_g (lw_at lw_m10 57 rfl) rfl
theorem q2325 : (Jvm.Cond.privateMethod ({ cls := "AnimationController", name := "running", desc := "()LAnimationController$Machine;" } : Jvm.MethodName)) ∈ lw_tbl := lw_at lw_m10 58 rfl
theorem q2326 : (Jvm.Cond.instanceMethod ({ cls := "AnimationController", name := "running", desc := "()LAnimationController$Machine;" } : Jvm.MethodName)) ∈ lw_all := lw_g (lw_at lw_m10 59 rfl) rfl
theorem q2327 : (Jvm.Cond.code ({ cls := "AnimationController", name := "running", desc := "()LAnimationController$Machine;" } : Jvm.MethodName) prog_1_method_31_code (1 : Nat) (Option.some (Jvm.ClassFile.FieldType.object "AnimationController$Machine"))) ∈ lw_all := lw_g (lw_at lw_m10 60 rfl) rfl
theorem q2328 : (Jvm.Cond.methodLink "AnimationController" (303 : Nat) ({ cls := "AnimationController$Machine", name := "run", desc := "()I" } : Jvm.MethodName)) ∈ lw_all := lw_g (lw_at lw_m10 61 rfl) rfl
theorem q2407 : (Jvm.Cond.privateMethod ({ cls := "AnimationController", name := "lengthOf", desc := "(LAnimationController$State;)I" } : Jvm.MethodName)) ∈ lw_tbl := lw_at lw_m10 140 rfl
theorem q2408 : (Jvm.Cond.instanceMethod ({ cls := "AnimationController", name := "lengthOf", desc := "(LAnimationController$State;)I" } : Jvm.MethodName)) ∈ lw_all := lw_g (lw_at lw_m10 141 rfl) rfl
theorem q2409 : (Jvm.Cond.code ({ cls := "AnimationController", name := "lengthOf", desc := "(LAnimationController$State;)I" } : Jvm.MethodName) prog_1_method_30_code (2 : Nat) (Option.some Jvm.ClassFile.FieldType.int)) ∈ lw_all := lw_g (lw_at lw_m10 142 rfl) rfl
theorem q2410 : (Jvm.Cond.constant "AnimationController" (284 : Nat) (1000000 : Int32)) ∈ lw_all := lw_g (lw_at lw_m10 143 rfl) rfl
theorem q2411 : (Jvm.Cond.methodLink "AnimationController" (285 : Nat) ({ cls := "AnimationController", name := "blend", desc := "(LAnimationController$Blend;LAnimationController$Node;I)V" } : Jvm.MethodName)) ∈ lw_all := lw_g (lw_at lw_m10 144 rfl) rfl
theorem q2412 : (Jvm.Cond.methodLink "AnimationController" (288 : Nat) ({ cls := "AnimationController$Blend", name := "length", desc := "()J" } : Jvm.MethodName)) ∈ lw_all := lw_g (lw_at lw_m10 145 rfl) rfl
theorem q2419 : (Jvm.Cond.constantLong "AnimationController" (291 : Nat) (1000000 : Int64)) ∈ lw_all := lw_g (lw_at lw_m10 152 rfl) rfl
theorem q2420 : (Jvm.Cond.methodLink "AnimationController" (293 : Nat) ({ cls := "java/lang/Math", name := "max", desc := "(JJ)J" } : Jvm.MethodName)) ∈ lw_all := lw_g (lw_at lw_m10 153 rfl) rfl
theorem q2467 : (Jvm.Cond.instanceMethod ({ cls := "AnimationController", name := "state", desc := "()I" } : Jvm.MethodName)) ∈ lw_all := lw_g (lw_at lw_m10 200 rfl) rfl
theorem q2468 : (Jvm.Cond.selects "AnimationController" ({ cls := "AnimationController", name := "state", desc := "()I" } : Jvm.MethodName) ({ cls := "AnimationController", name := "state", desc := "()I" } : Jvm.MethodName)) ∈ lw_all := lw_g (lw_at lw_m10 201 rfl) rfl
theorem q2469 : (Jvm.Cond.code ({ cls := "AnimationController", name := "state", desc := "()I" } : Jvm.MethodName) prog_1_method_34_code (1 : Nat) (Option.some Jvm.ClassFile.FieldType.int)) ∈ lw_all := lw_g (lw_at lw_m10 202 rfl) rfl
theorem q2474 : (Jvm.Cond.instanceMethod ({ cls := "AnimationController", name := "progress", desc := "(Z)J" } : Jvm.MethodName)) ∈ lw_all := lw_g (lw_at lw_m10 207 rfl) rfl
theorem q2475 : (Jvm.Cond.selects "AnimationController" ({ cls := "AnimationController", name := "progress", desc := "(Z)J" } : Jvm.MethodName) ({ cls := "AnimationController", name := "progress", desc := "(Z)J" } : Jvm.MethodName)) ∈ lw_all := lw_g (lw_at lw_m10 208 rfl) rfl
theorem q2476 : (Jvm.Cond.code ({ cls := "AnimationController", name := "progress", desc := "(Z)J" } : Jvm.MethodName) prog_1_method_40_code (3 : Nat) (Option.some Jvm.ClassFile.FieldType.long)) ∈ lw_all := lw_g (lw_at lw_m10 209 rfl) rfl
theorem q2477 : (Jvm.Cond.methodLink "AnimationController" (336 : Nat) ({ cls := "AnimationController$Track", name := "progress", desc := "()J" } : Jvm.MethodName)) ∈ lw_all := lw_g (lw_at lw_m10 210 rfl) rfl
theorem q2482 : (Jvm.Cond.instanceMethod ({ cls := "AnimationController", name := "stateLength", desc := "(I)I" } : Jvm.MethodName)) ∈ lw_all := lw_g (lw_at lw_m10 215 rfl) rfl
theorem q2483 : (Jvm.Cond.selects "AnimationController" ({ cls := "AnimationController", name := "stateLength", desc := "(I)I" } : Jvm.MethodName) ({ cls := "AnimationController", name := "stateLength", desc := "(I)I" } : Jvm.MethodName)) ∈ lw_all := lw_g (lw_at lw_m10 216 rfl) rfl
theorem q2484 : (Jvm.Cond.code ({ cls := "AnimationController", name := "stateLength", desc := "(I)I" } : Jvm.MethodName) prog_1_method_41_code (2 : Nat) (Option.some Jvm.ClassFile.FieldType.int)) ∈ lw_all := lw_g (lw_at lw_m10 217 rfl) rfl
theorem q2485 : (Jvm.Cond.methodLink "AnimationController" (339 : Nat) ({ cls := "AnimationController", name := "lengthOf", desc := "(LAnimationController$State;)I" } : Jvm.MethodName)) ∈ lw_all := lw_g (lw_at lw_m10 218 rfl) rfl
theorem q2490 : (Jvm.Cond.instanceMethod ({ cls := "AnimationController", name := "partWeight", desc := "(II)I" } : Jvm.MethodName)) ∈ lw_all := lw_g (lw_at lw_m10 223 rfl) rfl
theorem q2491 : (Jvm.Cond.selects "AnimationController" ({ cls := "AnimationController", name := "partWeight", desc := "(II)I" } : Jvm.MethodName) ({ cls := "AnimationController", name := "partWeight", desc := "(II)I" } : Jvm.MethodName)) ∈ lw_all := lw_g (lw_at lw_m10 224 rfl) rfl
theorem q2492 : (Jvm.Cond.code ({ cls := "AnimationController", name := "partWeight", desc := "(II)I" } : Jvm.MethodName) prog_1_method_42_code (4 : Nat) (Option.some Jvm.ClassFile.FieldType.int)) ∈ lw_all := lw_g (lw_at lw_m10 225 rfl) rfl
theorem q2497 : (Jvm.Cond.instanceMethod ({ cls := "AnimationController", name := "blocked", desc := "(I)I" } : Jvm.MethodName)) ∈ lw_all := lw_g (lw_at lw_m10 230 rfl) rfl
theorem q2498 : (Jvm.Cond.selects "AnimationController" ({ cls := "AnimationController", name := "blocked", desc := "(I)I" } : Jvm.MethodName) ({ cls := "AnimationController", name := "blocked", desc := "(I)I" } : Jvm.MethodName)) ∈ lw_all := lw_g (lw_at lw_m10 231 rfl) rfl
theorem q2499 : (Jvm.Cond.code ({ cls := "AnimationController", name := "blocked", desc := "(I)I" } : Jvm.MethodName) prog_1_method_43_code (2 : Nat) (Option.some Jvm.ClassFile.FieldType.int)) ∈ lw_all := lw_g (lw_at lw_m10 232 rfl) rfl
theorem q2500 : (Jvm.Cond.methodLink "AnimationController" (347 : Nat) ({ cls := "AnimationController$Machine", name := "obstacleOf", desc := "(I)I" } : Jvm.MethodName)) ∈ lw_all := lw_g (lw_at lw_m10 233 rfl) rfl
theorem q2508 : (Jvm.Cond.instanceMethod ({ cls := "AnimationController", name := "poseClip", desc := "(I)I" } : Jvm.MethodName)) ∈ lw_all := lw_g (lw_at lw_m11 1 rfl) rfl
theorem q2509 : (Jvm.Cond.selects "AnimationController" ({ cls := "AnimationController", name := "poseClip", desc := "(I)I" } : Jvm.MethodName) ({ cls := "AnimationController", name := "poseClip", desc := "(I)I" } : Jvm.MethodName)) ∈ lw_all := lw_g (lw_at lw_m11 2 rfl) rfl
theorem q2510 : (Jvm.Cond.code ({ cls := "AnimationController", name := "poseClip", desc := "(I)I" } : Jvm.MethodName) prog_1_method_47_code (2 : Nat) (Option.some Jvm.ClassFile.FieldType.int)) ∈ lw_all := lw_g (lw_at lw_m11 3 rfl) rfl
theorem q2511 : (Jvm.Cond.methodLink "AnimationController" (359 : Nat) ({ cls := "AnimationController", name := "present", desc := "(I)LAnimationController$Pose;" } : Jvm.MethodName)) ∈ lw_all := lw_g (lw_at lw_m11 4 rfl) rfl
theorem q2512 : (Jvm.Cond.privateMethod ({ cls := "AnimationController", name := "present", desc := "(I)LAnimationController$Pose;" } : Jvm.MethodName)) ∈ lw_tbl := lw_at lw_m11 5 rfl
theorem q2513 : (Jvm.Cond.instanceMethod ({ cls := "AnimationController", name := "present", desc := "(I)LAnimationController$Pose;" } : Jvm.MethodName)) ∈ lw_all := lw_g (lw_at lw_m11 6 rfl) rfl
theorem q2514 : (Jvm.Cond.code ({ cls := "AnimationController", name := "present", desc := "(I)LAnimationController$Pose;" } : Jvm.MethodName) prog_1_method_45_code (2 : Nat) (Option.some (Jvm.ClassFile.FieldType.object "AnimationController$Pose"))) ∈ lw_all := lw_g (lw_at lw_m11 7 rfl) rfl
theorem q2519 : (Jvm.Cond.instanceMethod ({ cls := "AnimationController", name := "poseTime", desc := "(I)I" } : Jvm.MethodName)) ∈ lw_all := lw_g (lw_at lw_m11 12 rfl) rfl
theorem q2520 : (Jvm.Cond.selects "AnimationController" ({ cls := "AnimationController", name := "poseTime", desc := "(I)I" } : Jvm.MethodName) ({ cls := "AnimationController", name := "poseTime", desc := "(I)I" } : Jvm.MethodName)) ∈ lw_all := lw_g (lw_at lw_m11 13 rfl) rfl
theorem q2521 : (Jvm.Cond.code ({ cls := "AnimationController", name := "poseTime", desc := "(I)I" } : Jvm.MethodName) prog_1_method_48_code (2 : Nat) (Option.some Jvm.ClassFile.FieldType.int)) ∈ lw_all := lw_g (lw_at lw_m11 14 rfl) rfl
theorem q2526 : (Jvm.Cond.instanceMethod ({ cls := "AnimationController", name := "poseWeight", desc := "(I)I" } : Jvm.MethodName)) ∈ lw_all := lw_g (lw_at lw_m11 19 rfl) rfl
theorem q2527 : (Jvm.Cond.selects "AnimationController" ({ cls := "AnimationController", name := "poseWeight", desc := "(I)I" } : Jvm.MethodName) ({ cls := "AnimationController", name := "poseWeight", desc := "(I)I" } : Jvm.MethodName)) ∈ lw_all := lw_g (lw_at lw_m11 20 rfl) rfl
theorem q2528 : (Jvm.Cond.code ({ cls := "AnimationController", name := "poseWeight", desc := "(I)I" } : Jvm.MethodName) prog_1_method_49_code (2 : Nat) (Option.some Jvm.ClassFile.FieldType.int)) ∈ lw_all := lw_g (lw_at lw_m11 21 rfl) rfl
theorem q2533 : (Jvm.Cond.instanceMethod ({ cls := "AnimationController", name := "event", desc := "(II)I" } : Jvm.MethodName)) ∈ lw_all := lw_g (lw_at lw_m11 26 rfl) rfl
theorem q2534 : (Jvm.Cond.selects "AnimationController" ({ cls := "AnimationController", name := "event", desc := "(II)I" } : Jvm.MethodName) ({ cls := "AnimationController", name := "event", desc := "(II)I" } : Jvm.MethodName)) ∈ lw_all := lw_g (lw_at lw_m11 27 rfl) rfl
theorem q2535 : (Jvm.Cond.code ({ cls := "AnimationController", name := "event", desc := "(II)I" } : Jvm.MethodName) prog_1_method_52_code (3 : Nat) (Option.some Jvm.ClassFile.FieldType.int)) ∈ lw_all := lw_g (lw_at lw_m11 28 rfl) rfl
theorem q2536 : (Jvm.Cond.methodLink "AnimationController" (375 : Nat) ({ cls := "AnimationController", name := "logged", desc := "()I" } : Jvm.MethodName)) ∈ lw_all := lw_g (lw_at lw_m11 29 rfl) rfl
theorem q2537 : (Jvm.Cond.privateMethod ({ cls := "AnimationController", name := "logged", desc := "()I" } : Jvm.MethodName)) ∈ lw_tbl := lw_at lw_m11 30 rfl
theorem q2538 : (Jvm.Cond.instanceMethod ({ cls := "AnimationController", name := "logged", desc := "()I" } : Jvm.MethodName)) ∈ lw_all := lw_g (lw_at lw_m11 31 rfl) rfl
theorem q2539 : (Jvm.Cond.code ({ cls := "AnimationController", name := "logged", desc := "()I" } : Jvm.MethodName) prog_1_method_51_code (1 : Nat) (Option.some Jvm.ClassFile.FieldType.int)) ∈ lw_all := lw_g (lw_at lw_m11 32 rfl) rfl
theorem q2544 : (Jvm.Cond.instanceMethod ({ cls := "AnimationController", name := "foretell", desc := "(I)I" } : Jvm.MethodName)) ∈ lw_all := lw_g (lw_at lw_m11 37 rfl) rfl
theorem q2545 : (Jvm.Cond.selects "AnimationController" ({ cls := "AnimationController", name := "foretell", desc := "(I)I" } : Jvm.MethodName) ({ cls := "AnimationController", name := "foretell", desc := "(I)I" } : Jvm.MethodName)) ∈ lw_all := lw_g (lw_at lw_m11 38 rfl) rfl
theorem q2546 : (Jvm.Cond.code ({ cls := "AnimationController", name := "foretell", desc := "(I)I" } : Jvm.MethodName) prog_1_method_56_code (2 : Nat) (Option.some Jvm.ClassFile.FieldType.int)) ∈ lw_all := lw_g (lw_at lw_m11 39 rfl) rfl
theorem q2547 : (Jvm.Cond.methodLink "AnimationController" (395 : Nat) ({ cls := "AnimationController", name := "runCopy", desc := "(LAnimationController$State;I)I" } : Jvm.MethodName)) ∈ lw_all := lw_g (lw_at lw_m11 40 rfl) rfl
theorem q2548 : (Jvm.Cond.privateMethod ({ cls := "AnimationController", name := "runCopy", desc := "(LAnimationController$State;I)I" } : Jvm.MethodName)) ∈ lw_tbl := lw_at lw_m11 41 rfl
theorem q2549 : (Jvm.Cond.instanceMethod ({ cls := "AnimationController", name := "runCopy", desc := "(LAnimationController$State;I)I" } : Jvm.MethodName)) ∈ lw_all := lw_g (lw_at lw_m11 42 rfl) rfl
theorem q2550 : (Jvm.Cond.codeWith ({ cls := "AnimationController", name := "runCopy", desc := "(LAnimationController$State;I)I" } : Jvm.MethodName) prog_1_method_55_code (8 : Nat) (Option.some Jvm.ClassFile.FieldType.int) [((11 : Nat), (60 : Nat), (128 : Nat), (0 : Nat)), ((74 : Nat), (114 : Nat), (128 : Nat), (0 : Nat)), ((128 : Nat), (130 : Nat), (128 : Nat), (0 : Nat))]) ∈ lw_all := lw_g (lw_at lw_m11 43 rfl) rfl
theorem q2551 : (Jvm.Cond.methodLink "AnimationController" (380 : Nat) ({ cls := "AnimationController", name := "values", desc := "()[I" } : Jvm.MethodName)) ∈ lw_all := lw_g (lw_at lw_m11 44 rfl) rfl
theorem q2552 : (Jvm.Cond.privateMethod ({ cls := "AnimationController", name := "values", desc := "()[I" } : Jvm.MethodName)) ∈ lw_tbl := lw_at lw_m11 45 rfl
theorem q2553 : (Jvm.Cond.instanceMethod ({ cls := "AnimationController", name := "values", desc := "()[I" } : Jvm.MethodName)) ∈ lw_all := lw_g (lw_at lw_m11 46 rfl) rfl
theorem q2554 : (Jvm.Cond.code ({ cls := "AnimationController", name := "values", desc := "()[I" } : Jvm.MethodName) prog_1_method_53_code (3 : Nat) (Option.some (Jvm.ClassFile.FieldType.array Jvm.ClassFile.FieldType.int))) ∈ lw_all := lw_g (lw_at lw_m11 47 rfl) rfl
theorem q2555 : (Jvm.Cond.methodLink "AnimationController" (384 : Nat) ({ cls := "AnimationController$Machine", name := "copy", desc := "()LAnimationController$Machine;" } : Jvm.MethodName)) ∈ lw_all := lw_g (lw_at lw_m11 48 rfl) rfl
theorem q2566 : (Jvm.Cond.methodLink "AnimationController" (387 : Nat) ({ cls := "AnimationController", name := "setValues", desc := "([I)V" } : Jvm.MethodName)) ∈ lw_all := lw_g (lw_at lw_m11 59 rfl) rfl
theorem q2567 : (Jvm.Cond.privateMethod ({ cls := "AnimationController", name := "setValues", desc := "([I)V" } : Jvm.MethodName)) ∈ lw_tbl := lw_at lw_m11 60 rfl
theorem q2568 : (Jvm.Cond.instanceMethod ({ cls := "AnimationController", name := "setValues", desc := "([I)V" } : Jvm.MethodName)) ∈ lw_all := lw_g (lw_at lw_m11 61 rfl) rfl
theorem q2569 : (Jvm.Cond.code ({ cls := "AnimationController", name := "setValues", desc := "([I)V" } : Jvm.MethodName) prog_1_method_54_code (3 : Nat) (Option.none : Option Jvm.ClassFile.FieldType)) ∈ lw_all := lw_g (lw_at lw_m11 62 rfl) rfl
theorem q2570 : (Jvm.Cond.methodLink "AnimationController" (391 : Nat) ({ cls := "AnimationController$Machine", name := "destination", desc := "()LAnimationController$State;" } : Jvm.MethodName)) ∈ lw_all := lw_g (lw_at lw_m11 63 rfl) rfl
theorem q2575 : (Jvm.Cond.instanceMethod ({ cls := "AnimationController", name := "ticksTo", desc := "(I)I" } : Jvm.MethodName)) ∈ lw_all := lw_g (lw_at lw_m11 68 rfl) rfl
theorem q2576 : (Jvm.Cond.selects "AnimationController" ({ cls := "AnimationController", name := "ticksTo", desc := "(I)I" } : Jvm.MethodName) ({ cls := "AnimationController", name := "ticksTo", desc := "(I)I" } : Jvm.MethodName)) ∈ lw_all := lw_g (lw_at lw_m11 69 rfl) rfl
theorem q2577 : (Jvm.Cond.code ({ cls := "AnimationController", name := "ticksTo", desc := "(I)I" } : Jvm.MethodName) prog_1_method_57_code (2 : Nat) (Option.some Jvm.ClassFile.FieldType.int)) ∈ lw_all := lw_g (lw_at lw_m11 70 rfl) rfl
theorem q2582 : (Jvm.Cond.instanceMethod ({ cls := "AnimationController", name := "steps", desc := "(II)I" } : Jvm.MethodName)) ∈ lw_all := lw_g (lw_at lw_m11 75 rfl) rfl
theorem q2583 : (Jvm.Cond.selects "AnimationController" ({ cls := "AnimationController", name := "steps", desc := "(II)I" } : Jvm.MethodName) ({ cls := "AnimationController", name := "steps", desc := "(II)I" } : Jvm.MethodName)) ∈ lw_all := lw_g (lw_at lw_m11 76 rfl) rfl
theorem q2584 : (Jvm.Cond.code ({ cls := "AnimationController", name := "steps", desc := "(II)I" } : Jvm.MethodName) prog_1_method_58_code (9 : Nat) (Option.some Jvm.ClassFile.FieldType.int)) ∈ lw_all := lw_g (lw_at lw_m11 77 rfl) rfl
theorem q2585 : (Jvm.Cond.classLink "AnimationController" (399 : Nat) "java/util/HashMap") ∈ lw_all := lw_g (lw_at lw_m11 78 rfl) rfl
theorem q2586 : (Jvm.Cond.methodLink "AnimationController" (401 : Nat) ({ cls := "java/util/HashMap", name := "<init>", desc := "()V" } : Jvm.MethodName)) ∈ lw_all := lw_g (lw_at lw_m11 79 rfl) rfl
theorem q2587 : (Jvm.Cond.classLink "AnimationController" (402 : Nat) "java/util/ArrayDeque") ∈ lw_all := lw_g (lw_at lw_m11 80 rfl) rfl
theorem q2589 : (Jvm.Cond.methodLink "AnimationController" (404 : Nat) ({ cls := "java/util/ArrayDeque", name := "<init>", desc := "()V" } : Jvm.MethodName)) ∈ lw_all := lw_g (lw_at lw_m11 82 rfl) rfl
theorem q2604 : (Jvm.Cond.methodLink "AnimationController" (405 : Nat) ({ cls := "java/lang/Integer", name := "valueOf", desc := "(I)Ljava/lang/Integer;" } : Jvm.MethodName)) ∈ lw_all := lw_g (lw_at lw_m11 97 rfl) rfl
theorem q2623 : (Jvm.Cond.methodLink "AnimationController" (411 : Nat) ({ cls := "java/util/HashMap", name := "put", desc := "(Ljava/lang/Object;Ljava/lang/Object;)Ljava/lang/Object;" } : Jvm.MethodName)) ∈ lw_all := lw_g (lw_at lw_m11 116 rfl) rfl
theorem q2624 : (Jvm.Cond.methodLink "AnimationController" (415 : Nat) ({ cls := "java/util/ArrayDeque", name := "addLast", desc := "(Ljava/lang/Object;)V" } : Jvm.MethodName)) ∈ lw_all := lw_g (lw_at lw_m11 117 rfl) rfl
theorem q2649 : (Jvm.Cond.methodLink "AnimationController" (419 : Nat) ({ cls := "java/util/ArrayDeque", name := "isEmpty", desc := "()Z" } : Jvm.MethodName)) ∈ lw_all := lw_g (lw_at lw_m11 142 rfl) rfl
theorem q2653 : (Jvm.Cond.methodLink "AnimationController" (422 : Nat) ({ cls := "java/util/HashMap", name := "containsKey", desc := "(Ljava/lang/Object;)Z" } : Jvm.MethodName)) ∈ lw_all := lw_g (lw_at lw_m11 146 rfl) rfl
theorem q2654 : (Jvm.Cond.methodLink "AnimationController" (425 : Nat) ({ cls := "java/util/ArrayDeque", name := "removeFirst", desc := "()Ljava/lang/Object;" } : Jvm.MethodName)) ∈ lw_all := lw_g (lw_at lw_m11 147 rfl) rfl
theorem q2665 : (Jvm.Cond.classLink "AnimationController" (406 : Nat) "java/lang/Integer") ∈ lw_all := lw_g (lw_at lw_m11 158 rfl) rfl
theorem q2666 : (Jvm.Cond.methodLink "AnimationController" (429 : Nat) ({ cls := "java/lang/Integer", name := "intValue", desc := "()I" } : Jvm.MethodName)) ∈ lw_all := lw_g (lw_at lw_m11 159 rfl) rfl
theorem q2667 : (Jvm.Cond.methodLink "AnimationController" (435 : Nat) ({ cls := "java/util/HashMap", name := "get", desc := "(Ljava/lang/Object;)Ljava/lang/Object;" } : Jvm.MethodName)) ∈ lw_all := lw_g (lw_at lw_m11 160 rfl) rfl
theorem q2684 : (Jvm.Cond.instanceMethod ({ cls := "AnimationController", name := "keep", desc := "(I)I" } : Jvm.MethodName)) ∈ lw_all := lw_g (lw_at lw_m11 177 rfl) rfl
theorem q2685 : (Jvm.Cond.selects "AnimationController" ({ cls := "AnimationController", name := "keep", desc := "(I)I" } : Jvm.MethodName) ({ cls := "AnimationController", name := "keep", desc := "(I)I" } : Jvm.MethodName)) ∈ lw_all := lw_g (lw_at lw_m11 178 rfl) rfl
theorem q2686 : (Jvm.Cond.code ({ cls := "AnimationController", name := "keep", desc := "(I)I" } : Jvm.MethodName) prog_1_method_59_code (2 : Nat) (Option.some Jvm.ClassFile.FieldType.int)) ∈ lw_all := lw_g (lw_at lw_m11 179 rfl) rfl
theorem q2687 : (Jvm.Cond.classLink "AnimationController" (438 : Nat) "AnimationController$Image") ∈ lw_all := lw_g (lw_at lw_m11 180 rfl) rfl
theorem q2689 : (Jvm.Cond.methodLink "AnimationController" (440 : Nat) ({ cls := "AnimationController$Image", name := "<init>", desc := "(LAnimationController$Machine;[I)V" } : Jvm.MethodName)) ∈ lw_all := lw_g (lw_at lw_m11 182 rfl) rfl
theorem q2694 : (Jvm.Cond.fieldLinkNest "AnimationController" (446 : Nat) "AnimationController$Image" "machine" "LAnimationController$Machine;" "AnimationController") ∈ lw_tbl := lw_at lw_m11 187 rfl
theorem q2696 : (Jvm.Cond.fieldLinkNest "AnimationController" (447 : Nat) "AnimationController$Image" "values" "[I" "AnimationController") ∈ lw_tbl := lw_at lw_m11 189 rfl
theorem q2702 : (Jvm.Cond.methodLink "AnimationController" (443 : Nat) ({ cls := "java/util/LinkedHashMap", name := "put", desc := "(Ljava/lang/Object;Ljava/lang/Object;)Ljava/lang/Object;" } : Jvm.MethodName)) ∈ lw_all := lw_g (lw_at lw_m11 195 rfl) rfl
theorem q2710 : (Jvm.Cond.instanceMethod ({ cls := "AnimationController", name := "restore", desc := "(I)I" } : Jvm.MethodName)) ∈ lw_all := lw_g (lw_at lw_m11 203 rfl) rfl
theorem q2711 : (Jvm.Cond.selects "AnimationController" ({ cls := "AnimationController", name := "restore", desc := "(I)I" } : Jvm.MethodName) ({ cls := "AnimationController", name := "restore", desc := "(I)I" } : Jvm.MethodName)) ∈ lw_all := lw_g (lw_at lw_m11 204 rfl) rfl
theorem q2712 : (Jvm.Cond.code ({ cls := "AnimationController", name := "restore", desc := "(I)I" } : Jvm.MethodName) prog_1_method_60_code (3 : Nat) (Option.some Jvm.ClassFile.FieldType.int)) ∈ lw_all := lw_g (lw_at lw_m11 205 rfl) rfl
theorem q2713 : (Jvm.Cond.methodLink "AnimationController" (444 : Nat) ({ cls := "java/util/LinkedHashMap", name := "containsKey", desc := "(Ljava/lang/Object;)Z" } : Jvm.MethodName)) ∈ lw_all := lw_g (lw_at lw_m11 206 rfl) rfl
theorem q2717 : (Jvm.Cond.methodLink "AnimationController" (445 : Nat) ({ cls := "java/util/LinkedHashMap", name := "get", desc := "(Ljava/lang/Object;)Ljava/lang/Object;" } : Jvm.MethodName)) ∈ lw_all := lw_g (lw_at lw_m11 210 rfl) rfl
theorem q2722 : (Jvm.Cond.instanceMethod ({ cls := "AnimationController", name := "count", desc := "(I)I" } : Jvm.MethodName)) ∈ lw_all := lw_g (lw_at lw_m11 215 rfl) rfl
theorem q2723 : (Jvm.Cond.selects "AnimationController" ({ cls := "AnimationController", name := "count", desc := "(I)I" } : Jvm.MethodName) ({ cls := "AnimationController", name := "count", desc := "(I)I" } : Jvm.MethodName)) ∈ lw_all := lw_g (lw_at lw_m11 216 rfl) rfl
theorem q2724 : (Jvm.Cond.code ({ cls := "AnimationController", name := "count", desc := "(I)I" } : Jvm.MethodName) prog_1_method_61_code (2 : Nat) (Option.some Jvm.ClassFile.FieldType.int)) ∈ lw_all := lw_g (lw_at lw_m11 217 rfl) rfl
theorem q3292 : (Jvm.Cond.castable "AnimationController" "java/lang/Object") ∈ lw_tbl := lw_at lw_m14 65 rfl
theorem in_X1 : ∀ w ∈ wsX10, w ∈ lw_all := lw_in wsX10 [637, 639, 641, 643, 645, 647, 649, 651, 653, 655, 657, 659, 661] (by decide +kernel) (by decide +kernel)

/-! AnimationController$Line -/
set_option maxRecDepth 100000
def RX10 : String := "AnimationController$Line"
def TX10 : u_T := fun k => match k with
  | 0 => ("AnimationController$Line", "parameter", "LAnimationController$Parameter;", true)
  | 1 => ("AnimationController$Line", "positions", "[I", true)
  | 2 => ("AnimationController$Line", "children", "[LAnimationController$Node;", true)
  | _ => ("AnimationController$Line", "many", "I", false)
def tyX10 : Nat → FieldType := fun k => match k with
  | 0 => .object "AnimationController$Parameter"
  | 1 => .array .int
  | 2 => .array (.object "AnimationController$Node")
  | _ => .int
abbrev wsX100 : List Cond := u_ws RX10 TX10 4
theorem nmX10 : ∀ a, a < 4 → ∀ b, b < 4 → a ≠ b → (TX10 a).2.1 ≠ (TX10 b).2.1 := by decide +kernel
theorem tyX10_ok : ∀ k, k < 4 → parseFieldDescriptor (TX10 k).2.2.1 = some (tyX10 k) := by decide +kernel
abbrev cX10_blend : ByteArray := prog_8_method_7_code
def yX10_blend : MethodName := ⟨RX10, "blend", "(LAnimationController$Blend;I)V"⟩
def dkwX10_blend_5 : List UInt8 := [180, 0, 15, 21, 4, 4, 100, 50, 43, 28, 21, 6, 100, 182, 0, 42, 177]
abbrev dktX10_blend_5 : List UInt8 := dkwX10_blend_5 ++ []
def dkwX10_blend_4 : List UInt8 := [21, 5, 100, 133, 184, 0, 46, 54, 6, 42, 180, 0, 15, 21, 4, 50, 43, 21, 6, 182, 0, 42, 42]
abbrev dktX10_blend_4 : List UInt8 := dkwX10_blend_4 ++ dktX10_blend_5
def dkwX10_blend_3 : List UInt8 := [180, 0, 9, 21, 4, 4, 100, 46, 54, 5, 28, 133, 29, 21, 5, 100, 133, 42, 180, 0, 9, 21, 4, 46]
abbrev dktX10_blend_3 : List UInt8 := dkwX10_blend_3 ++ dktX10_blend_4
def dkwX10_blend_2 : List UInt8 := [180, 0, 9, 21, 4, 46, 29, 163, 0, 16, 42, 180, 0, 15, 21, 4, 50, 43, 28, 182, 0, 42, 177, 42]
abbrev dktX10_blend_2 : List UInt8 := dkwX10_blend_2 ++ dktX10_blend_3
def dkwX10_blend_1 : List UInt8 := [180, 0, 9, 21, 4, 46, 29, 162, 0, 9, 132, 4, 1, 167, 255, 231, 21, 4, 153, 0, 14, 42]
abbrev dktX10_blend_1 : List UInt8 := dkwX10_blend_1 ++ dktX10_blend_2
def dkwX10_blend_0 : List UInt8 := [42, 180, 0, 19, 180, 0, 37, 62, 3, 54, 4, 21, 4, 42, 180, 0, 23, 4, 100, 162, 0, 20, 42]
abbrev dktX10_blend_0 : List UInt8 := dkwX10_blend_0 ++ dktX10_blend_1
theorem dksX10_blend_0 : cX10_blend.data.toList.drop 0 = dktX10_blend_0 := by decide +kernel
theorem dksX10_blend_1 : cX10_blend.data.toList.drop 23 = dktX10_blend_1 := dk_seg dksX10_blend_0 23 rfl rfl
theorem dksX10_blend_2 : cX10_blend.data.toList.drop 45 = dktX10_blend_2 := dk_seg dksX10_blend_1 22 rfl rfl
theorem dksX10_blend_3 : cX10_blend.data.toList.drop 69 = dktX10_blend_3 := dk_seg dksX10_blend_2 24 rfl rfl
theorem dksX10_blend_4 : cX10_blend.data.toList.drop 93 = dktX10_blend_4 := dk_seg dksX10_blend_3 24 rfl rfl
theorem dksX10_blend_5 : cX10_blend.data.toList.drop 116 = dktX10_blend_5 := dk_seg dksX10_blend_4 23 rfl rfl
theorem dX10_blend_0 : decode cX10_blend 0 = .ok (.aload_n 0, 1) := dk_42 (dk_at dksX10_blend_0 0 rfl rfl)
theorem dX10_blend_1 : decode cX10_blend 1 = .ok (.getfield 19, 3) := dk_180 0 19 (dk_at dksX10_blend_0 1 rfl rfl)
theorem dX10_blend_4 : decode cX10_blend 4 = .ok (.getfield 37, 3) := dk_180 0 37 (dk_at dksX10_blend_0 4 rfl rfl)
theorem dX10_blend_7 : decode cX10_blend 7 = .ok (.istore_n 3, 1) := dk_62 (dk_at dksX10_blend_0 7 rfl rfl)
theorem dX10_blend_8 : decode cX10_blend 8 = .ok (.iconst 0, 1) := dk_3 (dk_at dksX10_blend_0 8 rfl rfl)
theorem dX10_blend_9 : decode cX10_blend 9 = .ok (.istore 4, 2) := dk_54 4 (dk_at dksX10_blend_0 9 rfl rfl)
theorem dX10_blend_11 : decode cX10_blend 11 = .ok (.iload 4, 2) := dk_21 4 (dk_at dksX10_blend_0 11 rfl rfl)
theorem dX10_blend_13 : decode cX10_blend 13 = .ok (.aload_n 0, 1) := dk_42 (dk_at dksX10_blend_0 13 rfl rfl)
theorem dX10_blend_14 : decode cX10_blend 14 = .ok (.getfield 23, 3) := dk_180 0 23 (dk_at dksX10_blend_0 14 rfl rfl)
theorem dX10_blend_17 : decode cX10_blend 17 = .ok (.iconst 1, 1) := dk_4 (dk_at dksX10_blend_0 17 rfl rfl)
theorem dX10_blend_18 : decode cX10_blend 18 = .ok (.isub, 1) := dk_100 (dk_at dksX10_blend_0 18 rfl rfl)
theorem dX10_blend_19 : decode cX10_blend 19 = .ok (.if_icmp .ge 20, 3) := dk_162 0 20 (dk_at dksX10_blend_0 19 rfl rfl)
theorem dX10_blend_22 : decode cX10_blend 22 = .ok (.aload_n 0, 1) := dk_42 (dk_at dksX10_blend_0 22 rfl rfl)
theorem dX10_blend_23 : decode cX10_blend 23 = .ok (.getfield 9, 3) := dk_180 0 9 (dk_at dksX10_blend_1 0 rfl rfl)
theorem dX10_blend_26 : decode cX10_blend 26 = .ok (.iload 4, 2) := dk_21 4 (dk_at dksX10_blend_1 3 rfl rfl)
theorem dX10_blend_28 : decode cX10_blend 28 = .ok (.iaload, 1) := dk_46 (dk_at dksX10_blend_1 5 rfl rfl)
theorem dX10_blend_29 : decode cX10_blend 29 = .ok (.iload_n 3, 1) := dk_29 (dk_at dksX10_blend_1 6 rfl rfl)
theorem dX10_blend_30 : decode cX10_blend 30 = .ok (.if_icmp .ge 9, 3) := dk_162 0 9 (dk_at dksX10_blend_1 7 rfl rfl)
theorem dX10_blend_33 : decode cX10_blend 33 = .ok (.iinc 4 1, 3) := dk_132 4 1 (dk_at dksX10_blend_1 10 rfl rfl)
theorem dX10_blend_36 : decode cX10_blend 36 = .ok (.goto (-25), 3) := dk_167 255 231 (dk_at dksX10_blend_1 13 rfl rfl)
theorem dX10_blend_39 : decode cX10_blend 39 = .ok (.iload 4, 2) := dk_21 4 (dk_at dksX10_blend_1 16 rfl rfl)
theorem dX10_blend_41 : decode cX10_blend 41 = .ok (.ifCond .eq 14, 3) := dk_153 0 14 (dk_at dksX10_blend_1 18 rfl rfl)
theorem dX10_blend_44 : decode cX10_blend 44 = .ok (.aload_n 0, 1) := dk_42 (dk_at dksX10_blend_1 21 rfl rfl)
theorem dX10_blend_45 : decode cX10_blend 45 = .ok (.getfield 9, 3) := dk_180 0 9 (dk_at dksX10_blend_2 0 rfl rfl)
theorem dX10_blend_48 : decode cX10_blend 48 = .ok (.iload 4, 2) := dk_21 4 (dk_at dksX10_blend_2 3 rfl rfl)
theorem dX10_blend_50 : decode cX10_blend 50 = .ok (.iaload, 1) := dk_46 (dk_at dksX10_blend_2 5 rfl rfl)
theorem dX10_blend_51 : decode cX10_blend 51 = .ok (.iload_n 3, 1) := dk_29 (dk_at dksX10_blend_2 6 rfl rfl)
theorem dX10_blend_52 : decode cX10_blend 52 = .ok (.if_icmp .gt 16, 3) := dk_163 0 16 (dk_at dksX10_blend_2 7 rfl rfl)
theorem dX10_blend_55 : decode cX10_blend 55 = .ok (.aload_n 0, 1) := dk_42 (dk_at dksX10_blend_2 10 rfl rfl)
theorem dX10_blend_56 : decode cX10_blend 56 = .ok (.getfield 15, 3) := dk_180 0 15 (dk_at dksX10_blend_2 11 rfl rfl)
theorem dX10_blend_59 : decode cX10_blend 59 = .ok (.iload 4, 2) := dk_21 4 (dk_at dksX10_blend_2 14 rfl rfl)
theorem dX10_blend_61 : decode cX10_blend 61 = .ok (.aaload, 1) := dk_50 (dk_at dksX10_blend_2 16 rfl rfl)
theorem dX10_blend_62 : decode cX10_blend 62 = .ok (.aload_n 1, 1) := dk_43 (dk_at dksX10_blend_2 17 rfl rfl)
theorem dX10_blend_63 : decode cX10_blend 63 = .ok (.iload_n 2, 1) := dk_28 (dk_at dksX10_blend_2 18 rfl rfl)
theorem dX10_blend_64 : decode cX10_blend 64 = .ok (.invokevirtual 42, 3) := dk_182 0 42 (dk_at dksX10_blend_2 19 rfl rfl)
theorem dX10_blend_67 : decode cX10_blend 67 = .ok (.return_, 1) := dk_177 (dk_at dksX10_blend_2 22 rfl rfl)
theorem dX10_blend_68 : decode cX10_blend 68 = .ok (.aload_n 0, 1) := dk_42 (dk_at dksX10_blend_2 23 rfl rfl)
theorem dX10_blend_69 : decode cX10_blend 69 = .ok (.getfield 9, 3) := dk_180 0 9 (dk_at dksX10_blend_3 0 rfl rfl)
theorem dX10_blend_72 : decode cX10_blend 72 = .ok (.iload 4, 2) := dk_21 4 (dk_at dksX10_blend_3 3 rfl rfl)
theorem dX10_blend_74 : decode cX10_blend 74 = .ok (.iconst 1, 1) := dk_4 (dk_at dksX10_blend_3 5 rfl rfl)
theorem dX10_blend_75 : decode cX10_blend 75 = .ok (.isub, 1) := dk_100 (dk_at dksX10_blend_3 6 rfl rfl)
theorem dX10_blend_76 : decode cX10_blend 76 = .ok (.iaload, 1) := dk_46 (dk_at dksX10_blend_3 7 rfl rfl)
theorem dX10_blend_77 : decode cX10_blend 77 = .ok (.istore 5, 2) := dk_54 5 (dk_at dksX10_blend_3 8 rfl rfl)
theorem dX10_blend_79 : decode cX10_blend 79 = .ok (.iload_n 2, 1) := dk_28 (dk_at dksX10_blend_3 10 rfl rfl)
theorem dX10_blend_80 : decode cX10_blend 80 = .ok (.i2l, 1) := dk_133 (dk_at dksX10_blend_3 11 rfl rfl)
theorem dX10_blend_81 : decode cX10_blend 81 = .ok (.iload_n 3, 1) := dk_29 (dk_at dksX10_blend_3 12 rfl rfl)
theorem dX10_blend_82 : decode cX10_blend 82 = .ok (.iload 5, 2) := dk_21 5 (dk_at dksX10_blend_3 13 rfl rfl)
theorem dX10_blend_84 : decode cX10_blend 84 = .ok (.isub, 1) := dk_100 (dk_at dksX10_blend_3 15 rfl rfl)
theorem dX10_blend_85 : decode cX10_blend 85 = .ok (.i2l, 1) := dk_133 (dk_at dksX10_blend_3 16 rfl rfl)
theorem dX10_blend_86 : decode cX10_blend 86 = .ok (.aload_n 0, 1) := dk_42 (dk_at dksX10_blend_3 17 rfl rfl)
theorem dX10_blend_87 : decode cX10_blend 87 = .ok (.getfield 9, 3) := dk_180 0 9 (dk_at dksX10_blend_3 18 rfl rfl)
theorem dX10_blend_90 : decode cX10_blend 90 = .ok (.iload 4, 2) := dk_21 4 (dk_at dksX10_blend_3 21 rfl rfl)
theorem dX10_blend_92 : decode cX10_blend 92 = .ok (.iaload, 1) := dk_46 (dk_at dksX10_blend_3 23 rfl rfl)
theorem dX10_blend_93 : decode cX10_blend 93 = .ok (.iload 5, 2) := dk_21 5 (dk_at dksX10_blend_4 0 rfl rfl)
theorem dX10_blend_95 : decode cX10_blend 95 = .ok (.isub, 1) := dk_100 (dk_at dksX10_blend_4 2 rfl rfl)
theorem dX10_blend_96 : decode cX10_blend 96 = .ok (.i2l, 1) := dk_133 (dk_at dksX10_blend_4 3 rfl rfl)
theorem dX10_blend_97 : decode cX10_blend 97 = .ok (.invokestatic 46, 3) := dk_184 0 46 (dk_at dksX10_blend_4 4 rfl rfl)
theorem dX10_blend_100 : decode cX10_blend 100 = .ok (.istore 6, 2) := dk_54 6 (dk_at dksX10_blend_4 7 rfl rfl)
theorem dX10_blend_102 : decode cX10_blend 102 = .ok (.aload_n 0, 1) := dk_42 (dk_at dksX10_blend_4 9 rfl rfl)
theorem dX10_blend_103 : decode cX10_blend 103 = .ok (.getfield 15, 3) := dk_180 0 15 (dk_at dksX10_blend_4 10 rfl rfl)
theorem dX10_blend_106 : decode cX10_blend 106 = .ok (.iload 4, 2) := dk_21 4 (dk_at dksX10_blend_4 13 rfl rfl)
theorem dX10_blend_108 : decode cX10_blend 108 = .ok (.aaload, 1) := dk_50 (dk_at dksX10_blend_4 15 rfl rfl)
theorem dX10_blend_109 : decode cX10_blend 109 = .ok (.aload_n 1, 1) := dk_43 (dk_at dksX10_blend_4 16 rfl rfl)
theorem dX10_blend_110 : decode cX10_blend 110 = .ok (.iload 6, 2) := dk_21 6 (dk_at dksX10_blend_4 17 rfl rfl)
theorem dX10_blend_112 : decode cX10_blend 112 = .ok (.invokevirtual 42, 3) := dk_182 0 42 (dk_at dksX10_blend_4 19 rfl rfl)
theorem dX10_blend_115 : decode cX10_blend 115 = .ok (.aload_n 0, 1) := dk_42 (dk_at dksX10_blend_4 22 rfl rfl)
theorem dX10_blend_116 : decode cX10_blend 116 = .ok (.getfield 15, 3) := dk_180 0 15 (dk_at dksX10_blend_5 0 rfl rfl)
theorem dX10_blend_119 : decode cX10_blend 119 = .ok (.iload 4, 2) := dk_21 4 (dk_at dksX10_blend_5 3 rfl rfl)
theorem dX10_blend_121 : decode cX10_blend 121 = .ok (.iconst 1, 1) := dk_4 (dk_at dksX10_blend_5 5 rfl rfl)
theorem dX10_blend_122 : decode cX10_blend 122 = .ok (.isub, 1) := dk_100 (dk_at dksX10_blend_5 6 rfl rfl)
theorem dX10_blend_123 : decode cX10_blend 123 = .ok (.aaload, 1) := dk_50 (dk_at dksX10_blend_5 7 rfl rfl)
theorem dX10_blend_124 : decode cX10_blend 124 = .ok (.aload_n 1, 1) := dk_43 (dk_at dksX10_blend_5 8 rfl rfl)
theorem dX10_blend_125 : decode cX10_blend 125 = .ok (.iload_n 2, 1) := dk_28 (dk_at dksX10_blend_5 9 rfl rfl)
theorem dX10_blend_126 : decode cX10_blend 126 = .ok (.iload 6, 2) := dk_21 6 (dk_at dksX10_blend_5 10 rfl rfl)
theorem dX10_blend_128 : decode cX10_blend 128 = .ok (.isub, 1) := dk_100 (dk_at dksX10_blend_5 12 rfl rfl)
theorem dX10_blend_129 : decode cX10_blend 129 = .ok (.invokevirtual 42, 3) := dk_182 0 42 (dk_at dksX10_blend_5 13 rfl rfl)
theorem dX10_blend_132 : decode cX10_blend 132 = .ok (.return_, 1) := dk_177 (dk_at dksX10_blend_5 16 rfl rfl)
abbrev cX10_init : ByteArray := prog_8_method_1_code
def yX10_init : MethodName := ⟨RX10, "<init>", "(LAnimationController$Parameter;)V"⟩
def dkwX10_init_1 : List UInt8 := [177]
abbrev dktX10_init_1 : List UInt8 := dkwX10_init_1 ++ []
def dkwX10_init_0 : List UInt8 := [42, 183, 0, 3, 42, 8, 188, 10, 181, 0, 9, 42, 8, 189, 0, 4, 181, 0, 15, 42, 43, 181, 0, 19]
abbrev dktX10_init_0 : List UInt8 := dkwX10_init_0 ++ dktX10_init_1
theorem dksX10_init_0 : cX10_init.data.toList.drop 0 = dktX10_init_0 := by decide +kernel
theorem dksX10_init_1 : cX10_init.data.toList.drop 24 = dktX10_init_1 := dk_seg dksX10_init_0 24 rfl rfl
theorem dX10_init_0 : decode cX10_init 0 = .ok (.aload_n 0, 1) := dk_42 (dk_at dksX10_init_0 0 rfl rfl)
theorem dX10_init_1 : decode cX10_init 1 = .ok (.invokespecial 3, 3) := dk_183 0 3 (dk_at dksX10_init_0 1 rfl rfl)
theorem dX10_init_4 : decode cX10_init 4 = .ok (.aload_n 0, 1) := dk_42 (dk_at dksX10_init_0 4 rfl rfl)
theorem dX10_init_5 : decode cX10_init 5 = .ok (.iconst 5, 1) := dk_8 (dk_at dksX10_init_0 5 rfl rfl)
theorem dX10_init_6 : decode cX10_init 6 = .ok (.newarray .int, 2) := dk_188_10 (dk_at dksX10_init_0 6 rfl rfl)
theorem dX10_init_8 : decode cX10_init 8 = .ok (.putfield 9, 3) := dk_181 0 9 (dk_at dksX10_init_0 8 rfl rfl)
theorem dX10_init_11 : decode cX10_init 11 = .ok (.aload_n 0, 1) := dk_42 (dk_at dksX10_init_0 11 rfl rfl)
theorem dX10_init_12 : decode cX10_init 12 = .ok (.iconst 5, 1) := dk_8 (dk_at dksX10_init_0 12 rfl rfl)
theorem dX10_init_13 : decode cX10_init 13 = .ok (.anewarray 4, 3) := dk_189 0 4 (dk_at dksX10_init_0 13 rfl rfl)
theorem dX10_init_16 : decode cX10_init 16 = .ok (.putfield 15, 3) := dk_181 0 15 (dk_at dksX10_init_0 16 rfl rfl)
theorem dX10_init_19 : decode cX10_init 19 = .ok (.aload_n 0, 1) := dk_42 (dk_at dksX10_init_0 19 rfl rfl)
theorem dX10_init_20 : decode cX10_init 20 = .ok (.aload_n 1, 1) := dk_43 (dk_at dksX10_init_0 20 rfl rfl)
theorem dX10_init_21 : decode cX10_init 21 = .ok (.putfield 19, 3) := dk_181 0 19 (dk_at dksX10_init_0 21 rfl rfl)
theorem dX10_init_24 : decode cX10_init 24 = .ok (.return_, 1) := dk_177 (dk_at dksX10_init_1 0 rfl rfl)
abbrev cX10_hasAt : ByteArray := prog_8_method_4_code
def yX10_hasAt : MethodName := ⟨RX10, "hasAt", "(I)Z"⟩
def dkwX10_hasAt_1 : List UInt8 := [160, 0, 7, 4, 167, 0, 4, 3, 61, 132, 3, 1, 167, 255, 225, 28, 172]
abbrev dktX10_hasAt_1 : List UInt8 := dkwX10_hasAt_1 ++ []
def dkwX10_hasAt_0 : List UInt8 := [3, 61, 3, 62, 29, 42, 180, 0, 23, 162, 0, 29, 28, 154, 0, 13, 42, 180, 0, 9, 29, 46, 27]
abbrev dktX10_hasAt_0 : List UInt8 := dkwX10_hasAt_0 ++ dktX10_hasAt_1
theorem dksX10_hasAt_0 : cX10_hasAt.data.toList.drop 0 = dktX10_hasAt_0 := by decide +kernel
theorem dksX10_hasAt_1 : cX10_hasAt.data.toList.drop 23 = dktX10_hasAt_1 := dk_seg dksX10_hasAt_0 23 rfl rfl
theorem dX10_hasAt_0 : decode cX10_hasAt 0 = .ok (.iconst 0, 1) := dk_3 (dk_at dksX10_hasAt_0 0 rfl rfl)
theorem dX10_hasAt_1 : decode cX10_hasAt 1 = .ok (.istore_n 2, 1) := dk_61 (dk_at dksX10_hasAt_0 1 rfl rfl)
theorem dX10_hasAt_2 : decode cX10_hasAt 2 = .ok (.iconst 0, 1) := dk_3 (dk_at dksX10_hasAt_0 2 rfl rfl)
theorem dX10_hasAt_3 : decode cX10_hasAt 3 = .ok (.istore_n 3, 1) := dk_62 (dk_at dksX10_hasAt_0 3 rfl rfl)
theorem dX10_hasAt_4 : decode cX10_hasAt 4 = .ok (.iload_n 3, 1) := dk_29 (dk_at dksX10_hasAt_0 4 rfl rfl)
theorem dX10_hasAt_5 : decode cX10_hasAt 5 = .ok (.aload_n 0, 1) := dk_42 (dk_at dksX10_hasAt_0 5 rfl rfl)
theorem dX10_hasAt_6 : decode cX10_hasAt 6 = .ok (.getfield 23, 3) := dk_180 0 23 (dk_at dksX10_hasAt_0 6 rfl rfl)
theorem dX10_hasAt_9 : decode cX10_hasAt 9 = .ok (.if_icmp .ge 29, 3) := dk_162 0 29 (dk_at dksX10_hasAt_0 9 rfl rfl)
theorem dX10_hasAt_12 : decode cX10_hasAt 12 = .ok (.iload_n 2, 1) := dk_28 (dk_at dksX10_hasAt_0 12 rfl rfl)
theorem dX10_hasAt_13 : decode cX10_hasAt 13 = .ok (.ifCond .ne 13, 3) := dk_154 0 13 (dk_at dksX10_hasAt_0 13 rfl rfl)
theorem dX10_hasAt_16 : decode cX10_hasAt 16 = .ok (.aload_n 0, 1) := dk_42 (dk_at dksX10_hasAt_0 16 rfl rfl)
theorem dX10_hasAt_17 : decode cX10_hasAt 17 = .ok (.getfield 9, 3) := dk_180 0 9 (dk_at dksX10_hasAt_0 17 rfl rfl)
theorem dX10_hasAt_20 : decode cX10_hasAt 20 = .ok (.iload_n 3, 1) := dk_29 (dk_at dksX10_hasAt_0 20 rfl rfl)
theorem dX10_hasAt_21 : decode cX10_hasAt 21 = .ok (.iaload, 1) := dk_46 (dk_at dksX10_hasAt_0 21 rfl rfl)
theorem dX10_hasAt_22 : decode cX10_hasAt 22 = .ok (.iload_n 1, 1) := dk_27 (dk_at dksX10_hasAt_0 22 rfl rfl)
theorem dX10_hasAt_23 : decode cX10_hasAt 23 = .ok (.if_icmp .ne 7, 3) := dk_160 0 7 (dk_at dksX10_hasAt_1 0 rfl rfl)
theorem dX10_hasAt_26 : decode cX10_hasAt 26 = .ok (.iconst 1, 1) := dk_4 (dk_at dksX10_hasAt_1 3 rfl rfl)
theorem dX10_hasAt_27 : decode cX10_hasAt 27 = .ok (.goto 4, 3) := dk_167 0 4 (dk_at dksX10_hasAt_1 4 rfl rfl)
theorem dX10_hasAt_30 : decode cX10_hasAt 30 = .ok (.iconst 0, 1) := dk_3 (dk_at dksX10_hasAt_1 7 rfl rfl)
theorem dX10_hasAt_31 : decode cX10_hasAt 31 = .ok (.istore_n 2, 1) := dk_61 (dk_at dksX10_hasAt_1 8 rfl rfl)
theorem dX10_hasAt_32 : decode cX10_hasAt 32 = .ok (.iinc 3 1, 3) := dk_132 3 1 (dk_at dksX10_hasAt_1 9 rfl rfl)
theorem dX10_hasAt_35 : decode cX10_hasAt 35 = .ok (.goto (-31), 3) := dk_167 255 225 (dk_at dksX10_hasAt_1 12 rfl rfl)
theorem dX10_hasAt_38 : decode cX10_hasAt 38 = .ok (.iload_n 2, 1) := dk_28 (dk_at dksX10_hasAt_1 15 rfl rfl)
theorem dX10_hasAt_39 : decode cX10_hasAt 39 = .ok (.ireturn, 1) := dk_172 (dk_at dksX10_hasAt_1 16 rfl rfl)
abbrev cX10_isComplete : ByteArray := prog_8_method_2_code
def yX10_isComplete : MethodName := ⟨RX10, "isComplete", "()Z"⟩
def dkwX10_isComplete_0 : List UInt8 := [42, 180, 0, 23, 158, 0, 7, 4, 167, 0, 4, 3, 172]
abbrev dktX10_isComplete_0 : List UInt8 := dkwX10_isComplete_0 ++ []
theorem dksX10_isComplete_0 : cX10_isComplete.data.toList.drop 0 = dktX10_isComplete_0 := by decide +kernel
theorem dX10_isComplete_0 : decode cX10_isComplete 0 = .ok (.aload_n 0, 1) := dk_42 (dk_at dksX10_isComplete_0 0 rfl rfl)
theorem dX10_isComplete_1 : decode cX10_isComplete 1 = .ok (.getfield 23, 3) := dk_180 0 23 (dk_at dksX10_isComplete_0 1 rfl rfl)
theorem dX10_isComplete_4 : decode cX10_isComplete 4 = .ok (.ifCond .le 7, 3) := dk_158 0 7 (dk_at dksX10_isComplete_0 4 rfl rfl)
theorem dX10_isComplete_7 : decode cX10_isComplete 7 = .ok (.iconst 1, 1) := dk_4 (dk_at dksX10_isComplete_0 7 rfl rfl)
theorem dX10_isComplete_8 : decode cX10_isComplete 8 = .ok (.goto 4, 3) := dk_167 0 4 (dk_at dksX10_isComplete_0 8 rfl rfl)
theorem dX10_isComplete_11 : decode cX10_isComplete 11 = .ok (.iconst 0, 1) := dk_3 (dk_at dksX10_isComplete_0 11 rfl rfl)
theorem dX10_isComplete_12 : decode cX10_isComplete 12 = .ok (.ireturn, 1) := dk_172 (dk_at dksX10_isComplete_0 12 rfl rfl)
abbrev cX10_add : ByteArray := prog_8_method_5_code
def yX10_add : MethodName := ⟨RX10, "add", "(LAnimationController$Node;I)I"⟩
def dkwX10_add_3 : List UInt8 := [89, 180, 0, 23, 4, 96, 181, 0, 23, 29, 172]
abbrev dktX10_add_3 : List UInt8 := dkwX10_add_3 ++ []
def dkwX10_add_2 : List UInt8 := [100, 50, 83, 132, 3, 255, 167, 255, 209, 42, 180, 0, 9, 29, 28, 79, 42, 180, 0, 15, 29, 43, 83, 42]
abbrev dktX10_add_2 : List UInt8 := dkwX10_add_2 ++ dktX10_add_3
def dkwX10_add_1 : List UInt8 := [180, 0, 9, 29, 42, 180, 0, 9, 29, 4, 100, 46, 79, 42, 180, 0, 15, 29, 42, 180, 0, 15, 29, 4]
abbrev dktX10_add_1 : List UInt8 := dkwX10_add_1 ++ dktX10_add_2
def dkwX10_add_0 : List UInt8 := [42, 180, 0, 23, 62, 29, 158, 0, 49, 42, 180, 0, 9, 29, 4, 100, 46, 28, 164, 0, 37, 42]
abbrev dktX10_add_0 : List UInt8 := dkwX10_add_0 ++ dktX10_add_1
theorem dksX10_add_0 : cX10_add.data.toList.drop 0 = dktX10_add_0 := by decide +kernel
theorem dksX10_add_1 : cX10_add.data.toList.drop 22 = dktX10_add_1 := dk_seg dksX10_add_0 22 rfl rfl
theorem dksX10_add_2 : cX10_add.data.toList.drop 46 = dktX10_add_2 := dk_seg dksX10_add_1 24 rfl rfl
theorem dksX10_add_3 : cX10_add.data.toList.drop 70 = dktX10_add_3 := dk_seg dksX10_add_2 24 rfl rfl
theorem dX10_add_0 : decode cX10_add 0 = .ok (.aload_n 0, 1) := dk_42 (dk_at dksX10_add_0 0 rfl rfl)
theorem dX10_add_1 : decode cX10_add 1 = .ok (.getfield 23, 3) := dk_180 0 23 (dk_at dksX10_add_0 1 rfl rfl)
theorem dX10_add_4 : decode cX10_add 4 = .ok (.istore_n 3, 1) := dk_62 (dk_at dksX10_add_0 4 rfl rfl)
theorem dX10_add_5 : decode cX10_add 5 = .ok (.iload_n 3, 1) := dk_29 (dk_at dksX10_add_0 5 rfl rfl)
theorem dX10_add_6 : decode cX10_add 6 = .ok (.ifCond .le 49, 3) := dk_158 0 49 (dk_at dksX10_add_0 6 rfl rfl)
theorem dX10_add_9 : decode cX10_add 9 = .ok (.aload_n 0, 1) := dk_42 (dk_at dksX10_add_0 9 rfl rfl)
theorem dX10_add_10 : decode cX10_add 10 = .ok (.getfield 9, 3) := dk_180 0 9 (dk_at dksX10_add_0 10 rfl rfl)
theorem dX10_add_13 : decode cX10_add 13 = .ok (.iload_n 3, 1) := dk_29 (dk_at dksX10_add_0 13 rfl rfl)
theorem dX10_add_14 : decode cX10_add 14 = .ok (.iconst 1, 1) := dk_4 (dk_at dksX10_add_0 14 rfl rfl)
theorem dX10_add_15 : decode cX10_add 15 = .ok (.isub, 1) := dk_100 (dk_at dksX10_add_0 15 rfl rfl)
theorem dX10_add_16 : decode cX10_add 16 = .ok (.iaload, 1) := dk_46 (dk_at dksX10_add_0 16 rfl rfl)
theorem dX10_add_17 : decode cX10_add 17 = .ok (.iload_n 2, 1) := dk_28 (dk_at dksX10_add_0 17 rfl rfl)
theorem dX10_add_18 : decode cX10_add 18 = .ok (.if_icmp .le 37, 3) := dk_164 0 37 (dk_at dksX10_add_0 18 rfl rfl)
theorem dX10_add_21 : decode cX10_add 21 = .ok (.aload_n 0, 1) := dk_42 (dk_at dksX10_add_0 21 rfl rfl)
theorem dX10_add_22 : decode cX10_add 22 = .ok (.getfield 9, 3) := dk_180 0 9 (dk_at dksX10_add_1 0 rfl rfl)
theorem dX10_add_25 : decode cX10_add 25 = .ok (.iload_n 3, 1) := dk_29 (dk_at dksX10_add_1 3 rfl rfl)
theorem dX10_add_26 : decode cX10_add 26 = .ok (.aload_n 0, 1) := dk_42 (dk_at dksX10_add_1 4 rfl rfl)
theorem dX10_add_27 : decode cX10_add 27 = .ok (.getfield 9, 3) := dk_180 0 9 (dk_at dksX10_add_1 5 rfl rfl)
theorem dX10_add_30 : decode cX10_add 30 = .ok (.iload_n 3, 1) := dk_29 (dk_at dksX10_add_1 8 rfl rfl)
theorem dX10_add_31 : decode cX10_add 31 = .ok (.iconst 1, 1) := dk_4 (dk_at dksX10_add_1 9 rfl rfl)
theorem dX10_add_32 : decode cX10_add 32 = .ok (.isub, 1) := dk_100 (dk_at dksX10_add_1 10 rfl rfl)
theorem dX10_add_33 : decode cX10_add 33 = .ok (.iaload, 1) := dk_46 (dk_at dksX10_add_1 11 rfl rfl)
theorem dX10_add_34 : decode cX10_add 34 = .ok (.iastore, 1) := dk_79 (dk_at dksX10_add_1 12 rfl rfl)
theorem dX10_add_35 : decode cX10_add 35 = .ok (.aload_n 0, 1) := dk_42 (dk_at dksX10_add_1 13 rfl rfl)
theorem dX10_add_36 : decode cX10_add 36 = .ok (.getfield 15, 3) := dk_180 0 15 (dk_at dksX10_add_1 14 rfl rfl)
theorem dX10_add_39 : decode cX10_add 39 = .ok (.iload_n 3, 1) := dk_29 (dk_at dksX10_add_1 17 rfl rfl)
theorem dX10_add_40 : decode cX10_add 40 = .ok (.aload_n 0, 1) := dk_42 (dk_at dksX10_add_1 18 rfl rfl)
theorem dX10_add_41 : decode cX10_add 41 = .ok (.getfield 15, 3) := dk_180 0 15 (dk_at dksX10_add_1 19 rfl rfl)
theorem dX10_add_44 : decode cX10_add 44 = .ok (.iload_n 3, 1) := dk_29 (dk_at dksX10_add_1 22 rfl rfl)
theorem dX10_add_45 : decode cX10_add 45 = .ok (.iconst 1, 1) := dk_4 (dk_at dksX10_add_1 23 rfl rfl)
theorem dX10_add_46 : decode cX10_add 46 = .ok (.isub, 1) := dk_100 (dk_at dksX10_add_2 0 rfl rfl)
theorem dX10_add_47 : decode cX10_add 47 = .ok (.aaload, 1) := dk_50 (dk_at dksX10_add_2 1 rfl rfl)
theorem dX10_add_48 : decode cX10_add 48 = .ok (.aastore, 1) := dk_83 (dk_at dksX10_add_2 2 rfl rfl)
theorem dX10_add_49 : decode cX10_add 49 = .ok (.iinc 3 (-1), 3) := dk_132 3 255 (dk_at dksX10_add_2 3 rfl rfl)
theorem dX10_add_52 : decode cX10_add 52 = .ok (.goto (-47), 3) := dk_167 255 209 (dk_at dksX10_add_2 6 rfl rfl)
theorem dX10_add_55 : decode cX10_add 55 = .ok (.aload_n 0, 1) := dk_42 (dk_at dksX10_add_2 9 rfl rfl)
theorem dX10_add_56 : decode cX10_add 56 = .ok (.getfield 9, 3) := dk_180 0 9 (dk_at dksX10_add_2 10 rfl rfl)
theorem dX10_add_59 : decode cX10_add 59 = .ok (.iload_n 3, 1) := dk_29 (dk_at dksX10_add_2 13 rfl rfl)
theorem dX10_add_60 : decode cX10_add 60 = .ok (.iload_n 2, 1) := dk_28 (dk_at dksX10_add_2 14 rfl rfl)
theorem dX10_add_61 : decode cX10_add 61 = .ok (.iastore, 1) := dk_79 (dk_at dksX10_add_2 15 rfl rfl)
theorem dX10_add_62 : decode cX10_add 62 = .ok (.aload_n 0, 1) := dk_42 (dk_at dksX10_add_2 16 rfl rfl)
theorem dX10_add_63 : decode cX10_add 63 = .ok (.getfield 15, 3) := dk_180 0 15 (dk_at dksX10_add_2 17 rfl rfl)
theorem dX10_add_66 : decode cX10_add 66 = .ok (.iload_n 3, 1) := dk_29 (dk_at dksX10_add_2 20 rfl rfl)
theorem dX10_add_67 : decode cX10_add 67 = .ok (.aload_n 1, 1) := dk_43 (dk_at dksX10_add_2 21 rfl rfl)
theorem dX10_add_68 : decode cX10_add 68 = .ok (.aastore, 1) := dk_83 (dk_at dksX10_add_2 22 rfl rfl)
theorem dX10_add_69 : decode cX10_add 69 = .ok (.aload_n 0, 1) := dk_42 (dk_at dksX10_add_2 23 rfl rfl)
theorem dX10_add_70 : decode cX10_add 70 = .ok (.dup, 1) := dk_89 (dk_at dksX10_add_3 0 rfl rfl)
theorem dX10_add_71 : decode cX10_add 71 = .ok (.getfield 23, 3) := dk_180 0 23 (dk_at dksX10_add_3 1 rfl rfl)
theorem dX10_add_74 : decode cX10_add 74 = .ok (.iconst 1, 1) := dk_4 (dk_at dksX10_add_3 4 rfl rfl)
theorem dX10_add_75 : decode cX10_add 75 = .ok (.iadd, 1) := dk_96 (dk_at dksX10_add_3 5 rfl rfl)
theorem dX10_add_76 : decode cX10_add 76 = .ok (.putfield 23, 3) := dk_181 0 23 (dk_at dksX10_add_3 6 rfl rfl)
theorem dX10_add_79 : decode cX10_add 79 = .ok (.iload_n 3, 1) := dk_29 (dk_at dksX10_add_3 9 rfl rfl)
theorem dX10_add_80 : decode cX10_add 80 = .ok (.ireturn, 1) := dk_172 (dk_at dksX10_add_3 10 rfl rfl)
abbrev cX10_depth : ByteArray := prog_8_method_3_code
def yX10_depth : MethodName := ⟨RX10, "depth", "()I"⟩
def dkwX10_depth_1 : List UInt8 := [184, 0, 31, 60, 132, 2, 1, 167, 255, 231, 4, 27, 96, 172]
abbrev dktX10_depth_1 : List UInt8 := dkwX10_depth_1 ++ []
def dkwX10_depth_0 : List UInt8 := [3, 60, 3, 61, 28, 42, 180, 0, 23, 162, 0, 23, 27, 42, 180, 0, 15, 28, 50, 182, 0, 27]
abbrev dktX10_depth_0 : List UInt8 := dkwX10_depth_0 ++ dktX10_depth_1
theorem dksX10_depth_0 : cX10_depth.data.toList.drop 0 = dktX10_depth_0 := by decide +kernel
theorem dksX10_depth_1 : cX10_depth.data.toList.drop 22 = dktX10_depth_1 := dk_seg dksX10_depth_0 22 rfl rfl
theorem dX10_depth_0 : decode cX10_depth 0 = .ok (.iconst 0, 1) := dk_3 (dk_at dksX10_depth_0 0 rfl rfl)
theorem dX10_depth_1 : decode cX10_depth 1 = .ok (.istore_n 1, 1) := dk_60 (dk_at dksX10_depth_0 1 rfl rfl)
theorem dX10_depth_2 : decode cX10_depth 2 = .ok (.iconst 0, 1) := dk_3 (dk_at dksX10_depth_0 2 rfl rfl)
theorem dX10_depth_3 : decode cX10_depth 3 = .ok (.istore_n 2, 1) := dk_61 (dk_at dksX10_depth_0 3 rfl rfl)
theorem dX10_depth_4 : decode cX10_depth 4 = .ok (.iload_n 2, 1) := dk_28 (dk_at dksX10_depth_0 4 rfl rfl)
theorem dX10_depth_5 : decode cX10_depth 5 = .ok (.aload_n 0, 1) := dk_42 (dk_at dksX10_depth_0 5 rfl rfl)
theorem dX10_depth_6 : decode cX10_depth 6 = .ok (.getfield 23, 3) := dk_180 0 23 (dk_at dksX10_depth_0 6 rfl rfl)
theorem dX10_depth_9 : decode cX10_depth 9 = .ok (.if_icmp .ge 23, 3) := dk_162 0 23 (dk_at dksX10_depth_0 9 rfl rfl)
theorem dX10_depth_12 : decode cX10_depth 12 = .ok (.iload_n 1, 1) := dk_27 (dk_at dksX10_depth_0 12 rfl rfl)
theorem dX10_depth_13 : decode cX10_depth 13 = .ok (.aload_n 0, 1) := dk_42 (dk_at dksX10_depth_0 13 rfl rfl)
theorem dX10_depth_14 : decode cX10_depth 14 = .ok (.getfield 15, 3) := dk_180 0 15 (dk_at dksX10_depth_0 14 rfl rfl)
theorem dX10_depth_17 : decode cX10_depth 17 = .ok (.iload_n 2, 1) := dk_28 (dk_at dksX10_depth_0 17 rfl rfl)
theorem dX10_depth_18 : decode cX10_depth 18 = .ok (.aaload, 1) := dk_50 (dk_at dksX10_depth_0 18 rfl rfl)
theorem dX10_depth_19 : decode cX10_depth 19 = .ok (.invokevirtual 27, 3) := dk_182 0 27 (dk_at dksX10_depth_0 19 rfl rfl)
theorem dX10_depth_22 : decode cX10_depth 22 = .ok (.invokestatic 31, 3) := dk_184 0 31 (dk_at dksX10_depth_1 0 rfl rfl)
theorem dX10_depth_25 : decode cX10_depth 25 = .ok (.istore_n 1, 1) := dk_60 (dk_at dksX10_depth_1 3 rfl rfl)
theorem dX10_depth_26 : decode cX10_depth 26 = .ok (.iinc 2 1, 3) := dk_132 2 1 (dk_at dksX10_depth_1 4 rfl rfl)
theorem dX10_depth_29 : decode cX10_depth 29 = .ok (.goto (-25), 3) := dk_167 255 231 (dk_at dksX10_depth_1 7 rfl rfl)
theorem dX10_depth_32 : decode cX10_depth 32 = .ok (.iconst 1, 1) := dk_4 (dk_at dksX10_depth_1 10 rfl rfl)
theorem dX10_depth_33 : decode cX10_depth 33 = .ok (.iload_n 1, 1) := dk_27 (dk_at dksX10_depth_1 11 rfl rfl)
theorem dX10_depth_34 : decode cX10_depth 34 = .ok (.iadd, 1) := dk_96 (dk_at dksX10_depth_1 12 rfl rfl)
theorem dX10_depth_35 : decode cX10_depth 35 = .ok (.ireturn, 1) := dk_172 (dk_at dksX10_depth_1 13 rfl rfl)
abbrev cX10_remove : ByteArray := prog_8_method_6_code
def yX10_remove : MethodName := ⟨RX10, "remove", "(I)V"⟩
def dkwX10_remove_2 : List UInt8 := [132, 2, 1, 167, 255, 217, 42, 180, 0, 15, 42, 180, 0, 23, 1, 83, 177]
abbrev dktX10_remove_2 : List UInt8 := dkwX10_remove_2 ++ []
def dkwX10_remove_1 : List UInt8 := [28, 42, 180, 0, 9, 28, 4, 96, 46, 79, 42, 180, 0, 15, 28, 42, 180, 0, 15, 28, 4, 96, 50, 83]
abbrev dktX10_remove_1 : List UInt8 := dkwX10_remove_1 ++ dktX10_remove_2
def dkwX10_remove_0 : List UInt8 := [42, 89, 180, 0, 23, 4, 100, 181, 0, 23, 27, 61, 28, 42, 180, 0, 23, 162, 0, 37, 42, 180, 0, 9]
abbrev dktX10_remove_0 : List UInt8 := dkwX10_remove_0 ++ dktX10_remove_1
theorem dksX10_remove_0 : cX10_remove.data.toList.drop 0 = dktX10_remove_0 := by decide +kernel
theorem dksX10_remove_1 : cX10_remove.data.toList.drop 24 = dktX10_remove_1 := dk_seg dksX10_remove_0 24 rfl rfl
theorem dksX10_remove_2 : cX10_remove.data.toList.drop 48 = dktX10_remove_2 := dk_seg dksX10_remove_1 24 rfl rfl
theorem dX10_remove_0 : decode cX10_remove 0 = .ok (.aload_n 0, 1) := dk_42 (dk_at dksX10_remove_0 0 rfl rfl)
theorem dX10_remove_1 : decode cX10_remove 1 = .ok (.dup, 1) := dk_89 (dk_at dksX10_remove_0 1 rfl rfl)
theorem dX10_remove_2 : decode cX10_remove 2 = .ok (.getfield 23, 3) := dk_180 0 23 (dk_at dksX10_remove_0 2 rfl rfl)
theorem dX10_remove_5 : decode cX10_remove 5 = .ok (.iconst 1, 1) := dk_4 (dk_at dksX10_remove_0 5 rfl rfl)
theorem dX10_remove_6 : decode cX10_remove 6 = .ok (.isub, 1) := dk_100 (dk_at dksX10_remove_0 6 rfl rfl)
theorem dX10_remove_7 : decode cX10_remove 7 = .ok (.putfield 23, 3) := dk_181 0 23 (dk_at dksX10_remove_0 7 rfl rfl)
theorem dX10_remove_10 : decode cX10_remove 10 = .ok (.iload_n 1, 1) := dk_27 (dk_at dksX10_remove_0 10 rfl rfl)
theorem dX10_remove_11 : decode cX10_remove 11 = .ok (.istore_n 2, 1) := dk_61 (dk_at dksX10_remove_0 11 rfl rfl)
theorem dX10_remove_12 : decode cX10_remove 12 = .ok (.iload_n 2, 1) := dk_28 (dk_at dksX10_remove_0 12 rfl rfl)
theorem dX10_remove_13 : decode cX10_remove 13 = .ok (.aload_n 0, 1) := dk_42 (dk_at dksX10_remove_0 13 rfl rfl)
theorem dX10_remove_14 : decode cX10_remove 14 = .ok (.getfield 23, 3) := dk_180 0 23 (dk_at dksX10_remove_0 14 rfl rfl)
theorem dX10_remove_17 : decode cX10_remove 17 = .ok (.if_icmp .ge 37, 3) := dk_162 0 37 (dk_at dksX10_remove_0 17 rfl rfl)
theorem dX10_remove_20 : decode cX10_remove 20 = .ok (.aload_n 0, 1) := dk_42 (dk_at dksX10_remove_0 20 rfl rfl)
theorem dX10_remove_21 : decode cX10_remove 21 = .ok (.getfield 9, 3) := dk_180 0 9 (dk_at dksX10_remove_0 21 rfl rfl)
theorem dX10_remove_24 : decode cX10_remove 24 = .ok (.iload_n 2, 1) := dk_28 (dk_at dksX10_remove_1 0 rfl rfl)
theorem dX10_remove_25 : decode cX10_remove 25 = .ok (.aload_n 0, 1) := dk_42 (dk_at dksX10_remove_1 1 rfl rfl)
theorem dX10_remove_26 : decode cX10_remove 26 = .ok (.getfield 9, 3) := dk_180 0 9 (dk_at dksX10_remove_1 2 rfl rfl)
theorem dX10_remove_29 : decode cX10_remove 29 = .ok (.iload_n 2, 1) := dk_28 (dk_at dksX10_remove_1 5 rfl rfl)
theorem dX10_remove_30 : decode cX10_remove 30 = .ok (.iconst 1, 1) := dk_4 (dk_at dksX10_remove_1 6 rfl rfl)
theorem dX10_remove_31 : decode cX10_remove 31 = .ok (.iadd, 1) := dk_96 (dk_at dksX10_remove_1 7 rfl rfl)
theorem dX10_remove_32 : decode cX10_remove 32 = .ok (.iaload, 1) := dk_46 (dk_at dksX10_remove_1 8 rfl rfl)
theorem dX10_remove_33 : decode cX10_remove 33 = .ok (.iastore, 1) := dk_79 (dk_at dksX10_remove_1 9 rfl rfl)
theorem dX10_remove_34 : decode cX10_remove 34 = .ok (.aload_n 0, 1) := dk_42 (dk_at dksX10_remove_1 10 rfl rfl)
theorem dX10_remove_35 : decode cX10_remove 35 = .ok (.getfield 15, 3) := dk_180 0 15 (dk_at dksX10_remove_1 11 rfl rfl)
theorem dX10_remove_38 : decode cX10_remove 38 = .ok (.iload_n 2, 1) := dk_28 (dk_at dksX10_remove_1 14 rfl rfl)
theorem dX10_remove_39 : decode cX10_remove 39 = .ok (.aload_n 0, 1) := dk_42 (dk_at dksX10_remove_1 15 rfl rfl)
theorem dX10_remove_40 : decode cX10_remove 40 = .ok (.getfield 15, 3) := dk_180 0 15 (dk_at dksX10_remove_1 16 rfl rfl)
theorem dX10_remove_43 : decode cX10_remove 43 = .ok (.iload_n 2, 1) := dk_28 (dk_at dksX10_remove_1 19 rfl rfl)
theorem dX10_remove_44 : decode cX10_remove 44 = .ok (.iconst 1, 1) := dk_4 (dk_at dksX10_remove_1 20 rfl rfl)
theorem dX10_remove_45 : decode cX10_remove 45 = .ok (.iadd, 1) := dk_96 (dk_at dksX10_remove_1 21 rfl rfl)
theorem dX10_remove_46 : decode cX10_remove 46 = .ok (.aaload, 1) := dk_50 (dk_at dksX10_remove_1 22 rfl rfl)
theorem dX10_remove_47 : decode cX10_remove 47 = .ok (.aastore, 1) := dk_83 (dk_at dksX10_remove_1 23 rfl rfl)
theorem dX10_remove_48 : decode cX10_remove 48 = .ok (.iinc 2 1, 3) := dk_132 2 1 (dk_at dksX10_remove_2 0 rfl rfl)
theorem dX10_remove_51 : decode cX10_remove 51 = .ok (.goto (-39), 3) := dk_167 255 217 (dk_at dksX10_remove_2 3 rfl rfl)
theorem dX10_remove_54 : decode cX10_remove 54 = .ok (.aload_n 0, 1) := dk_42 (dk_at dksX10_remove_2 6 rfl rfl)
theorem dX10_remove_55 : decode cX10_remove 55 = .ok (.getfield 15, 3) := dk_180 0 15 (dk_at dksX10_remove_2 7 rfl rfl)
theorem dX10_remove_58 : decode cX10_remove 58 = .ok (.aload_n 0, 1) := dk_42 (dk_at dksX10_remove_2 10 rfl rfl)
theorem dX10_remove_59 : decode cX10_remove 59 = .ok (.getfield 23, 3) := dk_180 0 23 (dk_at dksX10_remove_2 11 rfl rfl)
theorem dX10_remove_62 : decode cX10_remove 62 = .ok (.aconst_null, 1) := dk_1 (dk_at dksX10_remove_2 14 rfl rfl)
theorem dX10_remove_63 : decode cX10_remove 63 = .ok (.aastore, 1) := dk_83 (dk_at dksX10_remove_2 15 rfl rfl)
theorem dX10_remove_64 : decode cX10_remove 64 = .ok (.return_, 1) := dk_177 (dk_at dksX10_remove_2 16 rfl rfl)
theorem q143 : (Jvm.Cond.initialized "AnimationController$Line") ∈ lw_all := lw_g (lw_at lw_m1 36 rfl) rfl
theorem q866 : (Jvm.Cond.selects "AnimationController$Line" ({ cls := "AnimationController$Node", name := "blend", desc := "(LAnimationController$Blend;I)V" } : Jvm.MethodName) ({ cls := "AnimationController$Line", name := "blend", desc := "(LAnimationController$Blend;I)V" } : Jvm.MethodName)) ∈ lw_all := lw_g (lw_at lw_m4 39 rfl) rfl
theorem q867 : (Jvm.Cond.instanceMethod ({ cls := "AnimationController$Line", name := "blend", desc := "(LAnimationController$Blend;I)V" } : Jvm.MethodName)) ∈ lw_all := lw_g (lw_at lw_m4 40 rfl) rfl
theorem q868 : (Jvm.Cond.code ({ cls := "AnimationController$Line", name := "blend", desc := "(LAnimationController$Blend;I)V" } : Jvm.MethodName) prog_8_method_7_code (7 : Nat) (Option.none : Option Jvm.ClassFile.FieldType)) ∈ lw_all := lw_g (lw_at lw_m4 41 rfl) rfl
theorem q869 : (Jvm.Cond.methodLink "AnimationController$Line" (42 : Nat) ({ cls := "AnimationController$Node", name := "blend", desc := "(LAnimationController$Blend;I)V" } : Jvm.MethodName)) ∈ lw_all := lw_g (lw_at lw_m4 42 rfl) rfl
theorem q870 : (Jvm.Cond.methodLinkNest "AnimationController$Line" (46 : Nat) ({ cls := "AnimationController", name := "share", desc := "(JJJ)I" } : Jvm.MethodName) "AnimationController") ∈ lw_tbl := lw_at lw_m4 43 rfl
theorem q1121 : (Jvm.Cond.selects "AnimationController$Line" ({ cls := "java/lang/Object", name := "getClass", desc := "()Ljava/lang/Class;" } : Jvm.MethodName) ({ cls := "java/lang/Object", name := "getClass", desc := "()Ljava/lang/Class;" } : Jvm.MethodName)) ∈ lw_all := lw_g (lw_at lw_m5 54 rfl) rfl
theorem q1281 : (Jvm.Cond.selects "AnimationController$Line" ({ cls := "java/lang/Object", name := "hashCode", desc := "()I" } : Jvm.MethodName) ({ cls := "java/lang/Object", name := "hashCode", desc := "()I" } : Jvm.MethodName)) ∈ lw_all := lw_g (lw_at lw_m5 214 rfl) rfl
theorem q1378 : (Jvm.Cond.selects "AnimationController$Line" ({ cls := "java/lang/Object", name := "equals", desc := "(Ljava/lang/Object;)Z" } : Jvm.MethodName) ({ cls := "java/lang/Object", name := "equals", desc := "(Ljava/lang/Object;)Z" } : Jvm.MethodName)) ∈ lw_all := lw_g (lw_at lw_m6 71 rfl) rfl
theorem q1953 : (Jvm.Cond.fieldLinkNest "AnimationController$Line" (37 : Nat) "AnimationController$Parameter" "value" "I" "AnimationController") ∈ lw_tbl := lw_at lw_m8 166 rfl
theorem q2124 : (Jvm.Cond.instantiable "AnimationController$Line" (4 : Nat)) ∈ lw_all := lw_g (lw_at lw_m9 97 rfl) rfl
theorem q2126 : (Jvm.Cond.instanceMethod ({ cls := "AnimationController$Line", name := "<init>", desc := "(LAnimationController$Parameter;)V" } : Jvm.MethodName)) ∈ lw_all := lw_g (lw_at lw_m9 99 rfl) rfl
theorem q2127 : (Jvm.Cond.code ({ cls := "AnimationController$Line", name := "<init>", desc := "(LAnimationController$Parameter;)V" } : Jvm.MethodName) prog_8_method_1_code (2 : Nat) (Option.none : Option Jvm.ClassFile.FieldType)) ∈ lw_all := lw_g (lw_at lw_m9 100 rfl) rfl
theorem q2128 : (Jvm.Cond.methodLinkNest "AnimationController$Line" (3 : Nat) ({ cls := "AnimationController$Node", name := "<init>", desc := "()V" } : Jvm.MethodName) "AnimationController") ∈ lw_tbl := lw_at lw_m9 101 rfl
theorem q2129 : (Jvm.Cond.classLink "AnimationController$Line" (4 : Nat) "AnimationController$Node") ∈ lw_all := lw_g (lw_at lw_m9 102 rfl) rfl
theorem q2131 : (Jvm.Cond.fieldLink "AnimationController$Line" (19 : Nat) "AnimationController$Line" "parameter" "LAnimationController$Parameter;") ∈ lw_all := lw_g (lw_at lw_m9 104 rfl) rfl
theorem q2132 : (Jvm.Cond.fieldLink "AnimationController$Line" (9 : Nat) "AnimationController$Line" "positions" "[I") ∈ lw_all := lw_g (lw_at lw_m9 105 rfl) rfl
theorem q2133 : (Jvm.Cond.fieldLink "AnimationController$Line" (15 : Nat) "AnimationController$Line" "children" "[LAnimationController$Node;") ∈ lw_all := lw_g (lw_at lw_m9 106 rfl) rfl
theorem q2134 : (Jvm.Cond.fieldLink "AnimationController$Line" (23 : Nat) "AnimationController$Line" "many" "I") ∈ lw_all := lw_g (lw_at lw_m9 107 rfl) rfl
theorem q2136 : (Jvm.Cond.laysFinal "AnimationController$Line" "AnimationController$Line" "parameter" "LAnimationController$Parameter;") ∈ lw_all := lw_g (lw_at lw_m9 109 rfl) rfl
theorem q2137 : (Jvm.Cond.soleField "AnimationController$Line" "parameter") ∈ lw_all := lw_g (lw_at lw_m9 110 rfl) rfl
theorem q2138 : (Jvm.Cond.laysFinal "AnimationController$Line" "AnimationController$Line" "positions" "[I") ∈ lw_all := lw_g (lw_at lw_m9 111 rfl) rfl
theorem q2139 : (Jvm.Cond.soleField "AnimationController$Line" "positions") ∈ lw_all := lw_g (lw_at lw_m9 112 rfl) rfl
theorem q2140 : (Jvm.Cond.laysFinal "AnimationController$Line" "AnimationController$Line" "children" "[LAnimationController$Node;") ∈ lw_all := lw_g (lw_at lw_m9 113 rfl) rfl
theorem q2141 : (Jvm.Cond.soleField "AnimationController$Line" "children") ∈ lw_all := lw_g (lw_at lw_m9 114 rfl) rfl
theorem q2142 : (Jvm.Cond.lays "AnimationController$Line" "AnimationController$Line" "many" "I") ∈ lw_all := lw_g (lw_at lw_m9 115 rfl) rfl
theorem q2143 : (Jvm.Cond.soleField "AnimationController$Line" "many") ∈ lw_all := lw_g (lw_at lw_m9 116 rfl) rfl
theorem q2144 : (Jvm.Cond.superclass "AnimationController$Line" "AnimationController$Node") ∈ lw_all := lw_g (lw_at lw_m9 117 rfl) rfl
theorem q2156 : (Jvm.Cond.instanceMethod ({ cls := "AnimationController$Line", name := "hasAt", desc := "(I)Z" } : Jvm.MethodName)) ∈ lw_all := lw_g (lw_at lw_m9 129 rfl) rfl
theorem q2157 : (Jvm.Cond.selects "AnimationController$Line" ({ cls := "AnimationController$Line", name := "hasAt", desc := "(I)Z" } : Jvm.MethodName) ({ cls := "AnimationController$Line", name := "hasAt", desc := "(I)Z" } : Jvm.MethodName)) ∈ lw_all := lw_g (lw_at lw_m9 130 rfl) rfl
theorem q2158 : (Jvm.Cond.code ({ cls := "AnimationController$Line", name := "hasAt", desc := "(I)Z" } : Jvm.MethodName) prog_8_method_4_code (4 : Nat) (Option.some Jvm.ClassFile.FieldType.boolean)) ∈ lw_all := lw_g (lw_at lw_m9 131 rfl) rfl
theorem q2165 : (Jvm.Cond.selects "AnimationController$Line" ({ cls := "AnimationController$Node", name := "isComplete", desc := "()Z" } : Jvm.MethodName) ({ cls := "AnimationController$Line", name := "isComplete", desc := "()Z" } : Jvm.MethodName)) ∈ lw_all := lw_g (lw_at lw_m9 138 rfl) rfl
theorem q2166 : (Jvm.Cond.instanceMethod ({ cls := "AnimationController$Line", name := "isComplete", desc := "()Z" } : Jvm.MethodName)) ∈ lw_all := lw_g (lw_at lw_m9 139 rfl) rfl
theorem q2167 : (Jvm.Cond.code ({ cls := "AnimationController$Line", name := "isComplete", desc := "()Z" } : Jvm.MethodName) prog_8_method_2_code (1 : Nat) (Option.some Jvm.ClassFile.FieldType.boolean)) ∈ lw_all := lw_g (lw_at lw_m9 140 rfl) rfl
theorem q2169 : (Jvm.Cond.instanceMethod ({ cls := "AnimationController$Line", name := "add", desc := "(LAnimationController$Node;I)I" } : Jvm.MethodName)) ∈ lw_all := lw_g (lw_at lw_m9 142 rfl) rfl
theorem q2170 : (Jvm.Cond.selects "AnimationController$Line" ({ cls := "AnimationController$Line", name := "add", desc := "(LAnimationController$Node;I)I" } : Jvm.MethodName) ({ cls := "AnimationController$Line", name := "add", desc := "(LAnimationController$Node;I)I" } : Jvm.MethodName)) ∈ lw_all := lw_g (lw_at lw_m9 143 rfl) rfl
theorem q2171 : (Jvm.Cond.code ({ cls := "AnimationController$Line", name := "add", desc := "(LAnimationController$Node;I)I" } : Jvm.MethodName) prog_8_method_5_code (4 : Nat) (Option.some Jvm.ClassFile.FieldType.int)) ∈ lw_all := lw_g (lw_at lw_m9 144 rfl) rfl
theorem q2182 : (Jvm.Cond.selects "AnimationController$Line" ({ cls := "AnimationController$Node", name := "depth", desc := "()I" } : Jvm.MethodName) ({ cls := "AnimationController$Line", name := "depth", desc := "()I" } : Jvm.MethodName)) ∈ lw_all := lw_g (lw_at lw_m9 155 rfl) rfl
theorem q2183 : (Jvm.Cond.instanceMethod ({ cls := "AnimationController$Line", name := "depth", desc := "()I" } : Jvm.MethodName)) ∈ lw_all := lw_g (lw_at lw_m9 156 rfl) rfl
theorem q2184 : (Jvm.Cond.code ({ cls := "AnimationController$Line", name := "depth", desc := "()I" } : Jvm.MethodName) prog_8_method_3_code (3 : Nat) (Option.some Jvm.ClassFile.FieldType.int)) ∈ lw_all := lw_g (lw_at lw_m9 157 rfl) rfl
theorem q2185 : (Jvm.Cond.methodLink "AnimationController$Line" (27 : Nat) ({ cls := "AnimationController$Node", name := "depth", desc := "()I" } : Jvm.MethodName)) ∈ lw_all := lw_g (lw_at lw_m9 158 rfl) rfl
theorem q2186 : (Jvm.Cond.methodLink "AnimationController$Line" (31 : Nat) ({ cls := "java/lang/Math", name := "max", desc := "(II)I" } : Jvm.MethodName)) ∈ lw_all := lw_g (lw_at lw_m9 159 rfl) rfl
theorem q2188 : (Jvm.Cond.instanceMethod ({ cls := "AnimationController$Line", name := "remove", desc := "(I)V" } : Jvm.MethodName)) ∈ lw_all := lw_g (lw_at lw_m9 161 rfl) rfl
theorem q2189 : (Jvm.Cond.selects "AnimationController$Line" ({ cls := "AnimationController$Line", name := "remove", desc := "(I)V" } : Jvm.MethodName) ({ cls := "AnimationController$Line", name := "remove", desc := "(I)V" } : Jvm.MethodName)) ∈ lw_all := lw_g (lw_at lw_m9 162 rfl) rfl
theorem q2190 : (Jvm.Cond.code ({ cls := "AnimationController$Line", name := "remove", desc := "(I)V" } : Jvm.MethodName) prog_8_method_6_code (3 : Nat) (Option.none : Option Jvm.ClassFile.FieldType)) ∈ lw_all := lw_g (lw_at lw_m9 163 rfl) rfl
theorem q3288 : (Jvm.Cond.castable "AnimationController$Line" "AnimationController$Node") ∈ lw_tbl := lw_at lw_m14 61 rfl
theorem q3308 : (Jvm.Cond.castable "AnimationController$Line" "java/lang/Object") ∈ lw_tbl := lw_at lw_m14 81 rfl
theorem in_X10 : ∀ w ∈ wsX100, w ∈ lw_all := lw_in wsX100 [2136, 2138, 2140, 2142] (by decide +kernel) (by decide +kernel)

/-! AnimationController$State -/
set_option maxRecDepth 100000
def RX11 : String := "AnimationController$State"
def TX11 : u_T := fun k => match k with
  | 0 => ("AnimationController$State", "number", "I", true)
  | 1 => ("AnimationController$State", "motion", "LAnimationController$Node;", true)
  | 2 => ("AnimationController$State", "speed", "I", true)
  | 3 => ("AnimationController$State", "loops", "Z", true)
  | _ => ("AnimationController$State", "group", "I", true)
def tyX11 : Nat → FieldType := fun k => match k with
  | 0 => .int
  | 1 => .object "AnimationController$Node"
  | 2 => .int
  | 3 => .boolean
  | _ => .int
abbrev wsX110 : List Cond := u_ws RX11 TX11 5
theorem nmX11 : ∀ a, a < 5 → ∀ b, b < 5 → a ≠ b → (TX11 a).2.1 ≠ (TX11 b).2.1 := by decide +kernel
theorem tyX11_ok : ∀ k, k < 5 → parseFieldDescriptor (TX11 k).2.2.1 = some (tyX11 k) := by decide +kernel
abbrev cX11_init : ByteArray := prog_14_method_1_code
def yX11_init : MethodName := ⟨RX11, "<init>", "(ILAnimationController$Node;IZI)V"⟩
def dkwX11_init_1 : List UInt8 := [181, 0, 20, 42, 21, 5, 181, 0, 24, 177]
abbrev dktX11_init_1 : List UInt8 := dkwX11_init_1 ++ []
def dkwX11_init_0 : List UInt8 := [42, 183, 0, 1, 42, 27, 181, 0, 7, 42, 44, 181, 0, 13, 42, 29, 181, 0, 17, 42, 21, 4]
abbrev dktX11_init_0 : List UInt8 := dkwX11_init_0 ++ dktX11_init_1
theorem dksX11_init_0 : cX11_init.data.toList.drop 0 = dktX11_init_0 := by decide +kernel
theorem dksX11_init_1 : cX11_init.data.toList.drop 22 = dktX11_init_1 := dk_seg dksX11_init_0 22 rfl rfl
theorem dX11_init_0 : decode cX11_init 0 = .ok (.aload_n 0, 1) := dk_42 (dk_at dksX11_init_0 0 rfl rfl)
theorem dX11_init_1 : decode cX11_init 1 = .ok (.invokespecial 1, 3) := dk_183 0 1 (dk_at dksX11_init_0 1 rfl rfl)
theorem dX11_init_4 : decode cX11_init 4 = .ok (.aload_n 0, 1) := dk_42 (dk_at dksX11_init_0 4 rfl rfl)
theorem dX11_init_5 : decode cX11_init 5 = .ok (.iload_n 1, 1) := dk_27 (dk_at dksX11_init_0 5 rfl rfl)
theorem dX11_init_6 : decode cX11_init 6 = .ok (.putfield 7, 3) := dk_181 0 7 (dk_at dksX11_init_0 6 rfl rfl)
theorem dX11_init_9 : decode cX11_init 9 = .ok (.aload_n 0, 1) := dk_42 (dk_at dksX11_init_0 9 rfl rfl)
theorem dX11_init_10 : decode cX11_init 10 = .ok (.aload_n 2, 1) := dk_44 (dk_at dksX11_init_0 10 rfl rfl)
theorem dX11_init_11 : decode cX11_init 11 = .ok (.putfield 13, 3) := dk_181 0 13 (dk_at dksX11_init_0 11 rfl rfl)
theorem dX11_init_14 : decode cX11_init 14 = .ok (.aload_n 0, 1) := dk_42 (dk_at dksX11_init_0 14 rfl rfl)
theorem dX11_init_15 : decode cX11_init 15 = .ok (.iload_n 3, 1) := dk_29 (dk_at dksX11_init_0 15 rfl rfl)
theorem dX11_init_16 : decode cX11_init 16 = .ok (.putfield 17, 3) := dk_181 0 17 (dk_at dksX11_init_0 16 rfl rfl)
theorem dX11_init_19 : decode cX11_init 19 = .ok (.aload_n 0, 1) := dk_42 (dk_at dksX11_init_0 19 rfl rfl)
theorem dX11_init_20 : decode cX11_init 20 = .ok (.iload 4, 2) := dk_21 4 (dk_at dksX11_init_0 20 rfl rfl)
theorem dX11_init_22 : decode cX11_init 22 = .ok (.putfield 20, 3) := dk_181 0 20 (dk_at dksX11_init_1 0 rfl rfl)
theorem dX11_init_25 : decode cX11_init 25 = .ok (.aload_n 0, 1) := dk_42 (dk_at dksX11_init_1 3 rfl rfl)
theorem dX11_init_26 : decode cX11_init 26 = .ok (.iload 5, 2) := dk_21 5 (dk_at dksX11_init_1 4 rfl rfl)
theorem dX11_init_28 : decode cX11_init 28 = .ok (.putfield 24, 3) := dk_181 0 24 (dk_at dksX11_init_1 6 rfl rfl)
theorem dX11_init_31 : decode cX11_init 31 = .ok (.return_, 1) := dk_177 (dk_at dksX11_init_1 9 rfl rfl)
abbrev cX11_isInGroupOf : ByteArray := prog_14_method_2_code
def yX11_isInGroupOf : MethodName := ⟨RX11, "isInGroupOf", "(LAnimationController$State;)Z"⟩
def dkwX11_isInGroupOf_0 : List UInt8 := [42, 180, 0, 24, 158, 0, 18, 42, 180, 0, 24, 43, 180, 0, 24, 160, 0, 7, 4, 167, 0, 4, 3, 172]
abbrev dktX11_isInGroupOf_0 : List UInt8 := dkwX11_isInGroupOf_0 ++ []
theorem dksX11_isInGroupOf_0 : cX11_isInGroupOf.data.toList.drop 0 = dktX11_isInGroupOf_0 := by decide +kernel
theorem dX11_isInGroupOf_0 : decode cX11_isInGroupOf 0 = .ok (.aload_n 0, 1) := dk_42 (dk_at dksX11_isInGroupOf_0 0 rfl rfl)
theorem dX11_isInGroupOf_1 : decode cX11_isInGroupOf 1 = .ok (.getfield 24, 3) := dk_180 0 24 (dk_at dksX11_isInGroupOf_0 1 rfl rfl)
theorem dX11_isInGroupOf_4 : decode cX11_isInGroupOf 4 = .ok (.ifCond .le 18, 3) := dk_158 0 18 (dk_at dksX11_isInGroupOf_0 4 rfl rfl)
theorem dX11_isInGroupOf_7 : decode cX11_isInGroupOf 7 = .ok (.aload_n 0, 1) := dk_42 (dk_at dksX11_isInGroupOf_0 7 rfl rfl)
theorem dX11_isInGroupOf_8 : decode cX11_isInGroupOf 8 = .ok (.getfield 24, 3) := dk_180 0 24 (dk_at dksX11_isInGroupOf_0 8 rfl rfl)
theorem dX11_isInGroupOf_11 : decode cX11_isInGroupOf 11 = .ok (.aload_n 1, 1) := dk_43 (dk_at dksX11_isInGroupOf_0 11 rfl rfl)
theorem dX11_isInGroupOf_12 : decode cX11_isInGroupOf 12 = .ok (.getfield 24, 3) := dk_180 0 24 (dk_at dksX11_isInGroupOf_0 12 rfl rfl)
theorem dX11_isInGroupOf_15 : decode cX11_isInGroupOf 15 = .ok (.if_icmp .ne 7, 3) := dk_160 0 7 (dk_at dksX11_isInGroupOf_0 15 rfl rfl)
theorem dX11_isInGroupOf_18 : decode cX11_isInGroupOf 18 = .ok (.iconst 1, 1) := dk_4 (dk_at dksX11_isInGroupOf_0 18 rfl rfl)
theorem dX11_isInGroupOf_19 : decode cX11_isInGroupOf 19 = .ok (.goto 4, 3) := dk_167 0 4 (dk_at dksX11_isInGroupOf_0 19 rfl rfl)
theorem dX11_isInGroupOf_22 : decode cX11_isInGroupOf 22 = .ok (.iconst 0, 1) := dk_3 (dk_at dksX11_isInGroupOf_0 22 rfl rfl)
theorem dX11_isInGroupOf_23 : decode cX11_isInGroupOf 23 = .ok (.ireturn, 1) := dk_172 (dk_at dksX11_isInGroupOf_0 23 rfl rfl)
theorem q144 : (Jvm.Cond.initialized "AnimationController$State") ∈ lw_all := lw_g (lw_at lw_m1 37 rfl) rfl
theorem q1126 : (Jvm.Cond.selects "AnimationController$State" ({ cls := "java/lang/Object", name := "getClass", desc := "()Ljava/lang/Class;" } : Jvm.MethodName) ({ cls := "java/lang/Object", name := "getClass", desc := "()Ljava/lang/Class;" } : Jvm.MethodName)) ∈ lw_all := lw_g (lw_at lw_m5 59 rfl) rfl
theorem q1286 : (Jvm.Cond.selects "AnimationController$State" ({ cls := "java/lang/Object", name := "hashCode", desc := "()I" } : Jvm.MethodName) ({ cls := "java/lang/Object", name := "hashCode", desc := "()I" } : Jvm.MethodName)) ∈ lw_all := lw_g (lw_at lw_m5 219 rfl) rfl
theorem q1383 : (Jvm.Cond.selects "AnimationController$State" ({ cls := "java/lang/Object", name := "equals", desc := "(Ljava/lang/Object;)Z" } : Jvm.MethodName) ({ cls := "java/lang/Object", name := "equals", desc := "(Ljava/lang/Object;)Z" } : Jvm.MethodName)) ∈ lw_all := lw_g (lw_at lw_m6 76 rfl) rfl
theorem q2200 : (Jvm.Cond.instantiable "AnimationController$State" (5 : Nat)) ∈ lw_all := lw_g (lw_at lw_m9 173 rfl) rfl
theorem q2202 : (Jvm.Cond.instanceMethod ({ cls := "AnimationController$State", name := "<init>", desc := "(ILAnimationController$Node;IZI)V" } : Jvm.MethodName)) ∈ lw_all := lw_g (lw_at lw_m9 175 rfl) rfl
theorem q2203 : (Jvm.Cond.code ({ cls := "AnimationController$State", name := "<init>", desc := "(ILAnimationController$Node;IZI)V" } : Jvm.MethodName) prog_14_method_1_code (6 : Nat) (Option.none : Option Jvm.ClassFile.FieldType)) ∈ lw_all := lw_g (lw_at lw_m9 176 rfl) rfl
theorem q2204 : (Jvm.Cond.methodLink "AnimationController$State" (1 : Nat) ({ cls := "java/lang/Object", name := "<init>", desc := "()V" } : Jvm.MethodName)) ∈ lw_all := lw_g (lw_at lw_m9 177 rfl) rfl
theorem q2205 : (Jvm.Cond.fieldLink "AnimationController$State" (7 : Nat) "AnimationController$State" "number" "I") ∈ lw_all := lw_g (lw_at lw_m9 178 rfl) rfl
theorem q2208 : (Jvm.Cond.fieldLink "AnimationController$State" (13 : Nat) "AnimationController$State" "motion" "LAnimationController$Node;") ∈ lw_all := lw_g (lw_at lw_m9 181 rfl) rfl
theorem q2211 : (Jvm.Cond.fieldLink "AnimationController$State" (17 : Nat) "AnimationController$State" "speed" "I") ∈ lw_all := lw_g (lw_at lw_m9 184 rfl) rfl
theorem q2213 : (Jvm.Cond.fieldLink "AnimationController$State" (20 : Nat) "AnimationController$State" "loops" "Z") ∈ lw_all := lw_g (lw_at lw_m9 186 rfl) rfl
theorem q2216 : (Jvm.Cond.fieldLink "AnimationController$State" (24 : Nat) "AnimationController$State" "group" "I") ∈ lw_all := lw_g (lw_at lw_m9 189 rfl) rfl
theorem q2217 : (Jvm.Cond.laysFinal "AnimationController$State" "AnimationController$State" "number" "I") ∈ lw_all := lw_g (lw_at lw_m9 190 rfl) rfl
theorem q2218 : (Jvm.Cond.soleField "AnimationController$State" "number") ∈ lw_all := lw_g (lw_at lw_m9 191 rfl) rfl
theorem q2219 : (Jvm.Cond.laysFinal "AnimationController$State" "AnimationController$State" "motion" "LAnimationController$Node;") ∈ lw_all := lw_g (lw_at lw_m9 192 rfl) rfl
theorem q2220 : (Jvm.Cond.soleField "AnimationController$State" "motion") ∈ lw_all := lw_g (lw_at lw_m9 193 rfl) rfl
theorem q2221 : (Jvm.Cond.laysFinal "AnimationController$State" "AnimationController$State" "speed" "I") ∈ lw_all := lw_g (lw_at lw_m9 194 rfl) rfl
theorem q2222 : (Jvm.Cond.soleField "AnimationController$State" "speed") ∈ lw_all := lw_g (lw_at lw_m9 195 rfl) rfl
theorem q2223 : (Jvm.Cond.laysFinal "AnimationController$State" "AnimationController$State" "loops" "Z") ∈ lw_all := lw_g (lw_at lw_m9 196 rfl) rfl
theorem q2224 : (Jvm.Cond.soleField "AnimationController$State" "loops") ∈ lw_all := lw_g (lw_at lw_m9 197 rfl) rfl
theorem q2225 : (Jvm.Cond.laysFinal "AnimationController$State" "AnimationController$State" "group" "I") ∈ lw_all := lw_g (lw_at lw_m9 198 rfl) rfl
theorem q2226 : (Jvm.Cond.soleField "AnimationController$State" "group") ∈ lw_all := lw_g (lw_at lw_m9 199 rfl) rfl
theorem q2227 : (Jvm.Cond.superclass "AnimationController$State" "java/lang/Object") ∈ lw_all := lw_g (lw_at lw_m9 200 rfl) rfl
theorem q2393 : (Jvm.Cond.instanceMethod ({ cls := "AnimationController$State", name := "isInGroupOf", desc := "(LAnimationController$State;)Z" } : Jvm.MethodName)) ∈ lw_all := lw_g (lw_at lw_m10 126 rfl) rfl
theorem q2394 : (Jvm.Cond.selects "AnimationController$State" ({ cls := "AnimationController$State", name := "isInGroupOf", desc := "(LAnimationController$State;)Z" } : Jvm.MethodName) ({ cls := "AnimationController$State", name := "isInGroupOf", desc := "(LAnimationController$State;)Z" } : Jvm.MethodName)) ∈ lw_all := lw_g (lw_at lw_m10 127 rfl) rfl
theorem q2395 : (Jvm.Cond.code ({ cls := "AnimationController$State", name := "isInGroupOf", desc := "(LAnimationController$State;)Z" } : Jvm.MethodName) prog_14_method_2_code (2 : Nat) (Option.some Jvm.ClassFile.FieldType.boolean)) ∈ lw_all := lw_g (lw_at lw_m10 128 rfl) rfl
theorem q3309 : (Jvm.Cond.castable "AnimationController$State" "java/lang/Object") ∈ lw_tbl := lw_at lw_m14 82 rfl
theorem in_X11 : ∀ w ∈ wsX110, w ∈ lw_all := lw_in wsX110 [2217, 2219, 2221, 2223, 2225] (by decide +kernel) (by decide +kernel)

/-! AnimationController$Machine -/
set_option maxRecDepth 100000
def RX12 : String := "AnimationController$Machine"
def TX12 : u_T := fun k => match k with
  | 0 => ("AnimationController$Machine", "source", "LAnimationController$Track;", false)
  | 1 => ("AnimationController$Machine", "target", "LAnimationController$Track;", false)
  | 2 => ("AnimationController$Machine", "transition", "I", false)
  | 3 => ("AnimationController$Machine", "elapsed", "I", false)
  | 4 => ("AnimationController$Machine", "interruptions", "I", false)
  | 5 => ("AnimationController$Machine", "isFrozen", "Z", false)
  | 6 => ("AnimationController$Machine", "frozen", "LAnimationController$Pose;", true)
  | 7 => ("AnimationController$Machine", "log", "[I", true)
  | 8 => ("AnimationController$Machine", "logged", "I", false)
  | 9 => ("AnimationController$Machine", "fired", "I", false)
  | 10 => ("AnimationController$Machine", "ticks", "I", false)
  | 11 => ("AnimationController$Machine", "candidates", "[I", true)
  | 12 => ("AnimationController$Machine", "bySource", "[Z", true)
  | 13 => ("AnimationController$Machine", "manyCandidates", "I", false)
  | _ => ("AnimationController$Machine", "this$0", "LAnimationController;", true)
def tyX12 : Nat → FieldType := fun k => match k with
  | 0 => .object "AnimationController$Track"
  | 1 => .object "AnimationController$Track"
  | 2 => .int
  | 3 => .int
  | 4 => .int
  | 5 => .boolean
  | 6 => .object "AnimationController$Pose"
  | 7 => .array .int
  | 8 => .int
  | 9 => .int
  | 10 => .int
  | 11 => .array .int
  | 12 => .array .boolean
  | 13 => .int
  | _ => .object "AnimationController"
abbrev wsX120 : List Cond := u_ws RX12 TX12 15
set_option maxRecDepth 100000 in
theorem nmX12 : ∀ a, a < 15 → ∀ b, b < 15 → a ≠ b → (TX12 a).2.1 ≠ (TX12 b).2.1 := by decide +kernel
set_option maxRecDepth 100000 in
theorem tyX12_ok : ∀ k, k < 15 → parseFieldDescriptor (TX12 k).2.2.1 = some (tyX12 k) := by decide +kernel
abbrev cX12_init : ByteArray := prog_9_method_1_code
def yX12_init : MethodName := ⟨RX12, "<init>", "(LAnimationController;LAnimationController$State;)V"⟩
def dkwX12_init_0 : List UInt8 := [42, 43, 187, 0, 3, 89, 44, 3, 183, 0, 5, 183, 0, 9, 177]
abbrev dktX12_init_0 : List UInt8 := dkwX12_init_0 ++ []
theorem dksX12_init_0 : cX12_init.data.toList.drop 0 = dktX12_init_0 := by decide +kernel
theorem dX12_init_0 : decode cX12_init 0 = .ok (.aload_n 0, 1) := dk_42 (dk_at dksX12_init_0 0 rfl rfl)
theorem dX12_init_1 : decode cX12_init 1 = .ok (.aload_n 1, 1) := dk_43 (dk_at dksX12_init_0 1 rfl rfl)
theorem dX12_init_2 : decode cX12_init 2 = .ok (.new 3, 3) := dk_187 0 3 (dk_at dksX12_init_0 2 rfl rfl)
theorem dX12_init_5 : decode cX12_init 5 = .ok (.dup, 1) := dk_89 (dk_at dksX12_init_0 5 rfl rfl)
theorem dX12_init_6 : decode cX12_init 6 = .ok (.aload_n 2, 1) := dk_44 (dk_at dksX12_init_0 6 rfl rfl)
theorem dX12_init_7 : decode cX12_init 7 = .ok (.iconst 0, 1) := dk_3 (dk_at dksX12_init_0 7 rfl rfl)
theorem dX12_init_8 : decode cX12_init 8 = .ok (.invokespecial 5, 3) := dk_183 0 5 (dk_at dksX12_init_0 8 rfl rfl)
theorem dX12_init_11 : decode cX12_init 11 = .ok (.invokespecial 9, 3) := dk_183 0 9 (dk_at dksX12_init_0 11 rfl rfl)
theorem dX12_init_14 : decode cX12_init 14 = .ok (.return_, 1) := dk_177 (dk_at dksX12_init_0 14 rfl rfl)
abbrev cX12_init_2 : ByteArray := prog_9_method_2_code
def yX12_init_2 : MethodName := ⟨RX12, "<init>", "(LAnimationController;LAnimationController$Track;)V"⟩
def dkwX12_init_2_2 : List UInt8 := [181, 0, 41, 42, 44, 181, 0, 45, 177]
abbrev dktX12_init_2_2 : List UInt8 := dkwX12_init_2_2 ++ []
def dkwX12_init_2_1 : List UInt8 := [181, 0, 30, 42, 16, 120, 188, 10, 181, 0, 34, 42, 16, 48, 188, 10, 181, 0, 38, 42, 16, 48, 188, 4]
abbrev dktX12_init_2_1 : List UInt8 := dkwX12_init_2_1 ++ dktX12_init_2_2
def dkwX12_init_2_0 : List UInt8 := [42, 43, 181, 0, 14, 42, 183, 0, 18, 42, 2, 181, 0, 23, 42, 187, 0, 27, 89, 183, 0, 29]
abbrev dktX12_init_2_0 : List UInt8 := dkwX12_init_2_0 ++ dktX12_init_2_1
theorem dksX12_init_2_0 : cX12_init_2.data.toList.drop 0 = dktX12_init_2_0 := by decide +kernel
theorem dksX12_init_2_1 : cX12_init_2.data.toList.drop 22 = dktX12_init_2_1 := dk_seg dksX12_init_2_0 22 rfl rfl
theorem dksX12_init_2_2 : cX12_init_2.data.toList.drop 46 = dktX12_init_2_2 := dk_seg dksX12_init_2_1 24 rfl rfl
theorem dX12_init_2_0 : decode cX12_init_2 0 = .ok (.aload_n 0, 1) := dk_42 (dk_at dksX12_init_2_0 0 rfl rfl)
theorem dX12_init_2_1 : decode cX12_init_2 1 = .ok (.aload_n 1, 1) := dk_43 (dk_at dksX12_init_2_0 1 rfl rfl)
theorem dX12_init_2_2 : decode cX12_init_2 2 = .ok (.putfield 14, 3) := dk_181 0 14 (dk_at dksX12_init_2_0 2 rfl rfl)
theorem dX12_init_2_5 : decode cX12_init_2 5 = .ok (.aload_n 0, 1) := dk_42 (dk_at dksX12_init_2_0 5 rfl rfl)
theorem dX12_init_2_6 : decode cX12_init_2 6 = .ok (.invokespecial 18, 3) := dk_183 0 18 (dk_at dksX12_init_2_0 6 rfl rfl)
theorem dX12_init_2_9 : decode cX12_init_2 9 = .ok (.aload_n 0, 1) := dk_42 (dk_at dksX12_init_2_0 9 rfl rfl)
theorem dX12_init_2_10 : decode cX12_init_2 10 = .ok (.iconst (-1), 1) := dk_2 (dk_at dksX12_init_2_0 10 rfl rfl)
theorem dX12_init_2_11 : decode cX12_init_2 11 = .ok (.putfield 23, 3) := dk_181 0 23 (dk_at dksX12_init_2_0 11 rfl rfl)
theorem dX12_init_2_14 : decode cX12_init_2 14 = .ok (.aload_n 0, 1) := dk_42 (dk_at dksX12_init_2_0 14 rfl rfl)
theorem dX12_init_2_15 : decode cX12_init_2 15 = .ok (.new 27, 3) := dk_187 0 27 (dk_at dksX12_init_2_0 15 rfl rfl)
theorem dX12_init_2_18 : decode cX12_init_2 18 = .ok (.dup, 1) := dk_89 (dk_at dksX12_init_2_0 18 rfl rfl)
theorem dX12_init_2_19 : decode cX12_init_2 19 = .ok (.invokespecial 29, 3) := dk_183 0 29 (dk_at dksX12_init_2_0 19 rfl rfl)
theorem dX12_init_2_22 : decode cX12_init_2 22 = .ok (.putfield 30, 3) := dk_181 0 30 (dk_at dksX12_init_2_1 0 rfl rfl)
theorem dX12_init_2_25 : decode cX12_init_2 25 = .ok (.aload_n 0, 1) := dk_42 (dk_at dksX12_init_2_1 3 rfl rfl)
theorem dX12_init_2_26 : decode cX12_init_2 26 = .ok (.bipush 120, 2) := dk_16 120 (dk_at dksX12_init_2_1 4 rfl rfl)
theorem dX12_init_2_28 : decode cX12_init_2 28 = .ok (.newarray .int, 2) := dk_188_10 (dk_at dksX12_init_2_1 6 rfl rfl)
theorem dX12_init_2_30 : decode cX12_init_2 30 = .ok (.putfield 34, 3) := dk_181 0 34 (dk_at dksX12_init_2_1 8 rfl rfl)
theorem dX12_init_2_33 : decode cX12_init_2 33 = .ok (.aload_n 0, 1) := dk_42 (dk_at dksX12_init_2_1 11 rfl rfl)
theorem dX12_init_2_34 : decode cX12_init_2 34 = .ok (.bipush 48, 2) := dk_16 48 (dk_at dksX12_init_2_1 12 rfl rfl)
theorem dX12_init_2_36 : decode cX12_init_2 36 = .ok (.newarray .int, 2) := dk_188_10 (dk_at dksX12_init_2_1 14 rfl rfl)
theorem dX12_init_2_38 : decode cX12_init_2 38 = .ok (.putfield 38, 3) := dk_181 0 38 (dk_at dksX12_init_2_1 16 rfl rfl)
theorem dX12_init_2_41 : decode cX12_init_2 41 = .ok (.aload_n 0, 1) := dk_42 (dk_at dksX12_init_2_1 19 rfl rfl)
theorem dX12_init_2_42 : decode cX12_init_2 42 = .ok (.bipush 48, 2) := dk_16 48 (dk_at dksX12_init_2_1 20 rfl rfl)
theorem dX12_init_2_44 : decode cX12_init_2 44 = .ok (.newarray .boolean, 2) := dk_188_4 (dk_at dksX12_init_2_1 22 rfl rfl)
theorem dX12_init_2_46 : decode cX12_init_2 46 = .ok (.putfield 41, 3) := dk_181 0 41 (dk_at dksX12_init_2_2 0 rfl rfl)
theorem dX12_init_2_49 : decode cX12_init_2 49 = .ok (.aload_n 0, 1) := dk_42 (dk_at dksX12_init_2_2 3 rfl rfl)
theorem dX12_init_2_50 : decode cX12_init_2 50 = .ok (.aload_n 2, 1) := dk_44 (dk_at dksX12_init_2_2 4 rfl rfl)
theorem dX12_init_2_51 : decode cX12_init_2 51 = .ok (.putfield 45, 3) := dk_181 0 45 (dk_at dksX12_init_2_2 5 rfl rfl)
theorem dX12_init_2_54 : decode cX12_init_2 54 = .ok (.return_, 1) := dk_177 (dk_at dksX12_init_2_2 8 rfl rfl)
abbrev cX12_isIdle : ByteArray := prog_9_method_4_code
def yX12_isIdle : MethodName := ⟨RX12, "isIdle", "()Z"⟩
def dkwX12_isIdle_0 : List UInt8 := [42, 180, 0, 53, 199, 0, 7, 4, 167, 0, 4, 3, 172]
abbrev dktX12_isIdle_0 : List UInt8 := dkwX12_isIdle_0 ++ []
theorem dksX12_isIdle_0 : cX12_isIdle.data.toList.drop 0 = dktX12_isIdle_0 := by decide +kernel
theorem dX12_isIdle_0 : decode cX12_isIdle 0 = .ok (.aload_n 0, 1) := dk_42 (dk_at dksX12_isIdle_0 0 rfl rfl)
theorem dX12_isIdle_1 : decode cX12_isIdle 1 = .ok (.getfield 53, 3) := dk_180 0 53 (dk_at dksX12_isIdle_0 1 rfl rfl)
theorem dX12_isIdle_4 : decode cX12_isIdle 4 = .ok (.ifnonnull 7, 3) := dk_199 0 7 (dk_at dksX12_isIdle_0 4 rfl rfl)
theorem dX12_isIdle_7 : decode cX12_isIdle 7 = .ok (.iconst 1, 1) := dk_4 (dk_at dksX12_isIdle_0 7 rfl rfl)
theorem dX12_isIdle_8 : decode cX12_isIdle 8 = .ok (.goto 4, 3) := dk_167 0 4 (dk_at dksX12_isIdle_0 8 rfl rfl)
theorem dX12_isIdle_11 : decode cX12_isIdle 11 = .ok (.iconst 0, 1) := dk_3 (dk_at dksX12_isIdle_0 11 rfl rfl)
theorem dX12_isIdle_12 : decode cX12_isIdle 12 = .ok (.ireturn, 1) := dk_172 (dk_at dksX12_isIdle_0 12 rfl rfl)
abbrev cX12_poseNow : ByteArray := prog_9_method_26_code
def yX12_poseNow : MethodName := ⟨RX12, "poseNow", "()V"⟩
def dkwX12_poseNow_3 : List UInt8 := [182, 1, 65, 177]
abbrev dktX12_poseNow_3 : List UInt8 := dkwX12_poseNow_3 ++ []
def dkwX12_poseNow_2 : List UInt8 := [180, 0, 45, 18, 230, 27, 100, 182, 1, 65, 42, 182, 0, 85, 154, 0, 12, 42, 42, 180, 0, 53, 27]
abbrev dktX12_poseNow_2 : List UInt8 := dkwX12_poseNow_2 ++ dktX12_poseNow_3
def dkwX12_poseNow_1 : List UInt8 := [182, 0, 223, 60, 42, 180, 0, 62, 153, 0, 14, 42, 18, 230, 27, 100, 182, 1, 62, 167, 0, 15, 42, 42]
abbrev dktX12_poseNow_1 : List UInt8 := dkwX12_poseNow_1 ++ dktX12_poseNow_2
def dkwX12_poseNow_0 : List UInt8 := [42, 180, 0, 14, 180, 0, 178, 3, 181, 1, 52, 42, 182, 0, 85, 153, 0, 7, 3, 167, 0, 7, 42]
abbrev dktX12_poseNow_0 : List UInt8 := dkwX12_poseNow_0 ++ dktX12_poseNow_1
theorem dksX12_poseNow_0 : cX12_poseNow.data.toList.drop 0 = dktX12_poseNow_0 := by decide +kernel
theorem dksX12_poseNow_1 : cX12_poseNow.data.toList.drop 23 = dktX12_poseNow_1 := dk_seg dksX12_poseNow_0 23 rfl rfl
theorem dksX12_poseNow_2 : cX12_poseNow.data.toList.drop 47 = dktX12_poseNow_2 := dk_seg dksX12_poseNow_1 24 rfl rfl
theorem dksX12_poseNow_3 : cX12_poseNow.data.toList.drop 70 = dktX12_poseNow_3 := dk_seg dksX12_poseNow_2 23 rfl rfl
theorem dX12_poseNow_0 : decode cX12_poseNow 0 = .ok (.aload_n 0, 1) := dk_42 (dk_at dksX12_poseNow_0 0 rfl rfl)
theorem dX12_poseNow_1 : decode cX12_poseNow 1 = .ok (.getfield 14, 3) := dk_180 0 14 (dk_at dksX12_poseNow_0 1 rfl rfl)
theorem dX12_poseNow_4 : decode cX12_poseNow 4 = .ok (.getfield 178, 3) := dk_180 0 178 (dk_at dksX12_poseNow_0 4 rfl rfl)
theorem dX12_poseNow_7 : decode cX12_poseNow 7 = .ok (.iconst 0, 1) := dk_3 (dk_at dksX12_poseNow_0 7 rfl rfl)
theorem dX12_poseNow_8 : decode cX12_poseNow 8 = .ok (.putfield 308, 3) := dk_181 1 52 (dk_at dksX12_poseNow_0 8 rfl rfl)
theorem dX12_poseNow_11 : decode cX12_poseNow 11 = .ok (.aload_n 0, 1) := dk_42 (dk_at dksX12_poseNow_0 11 rfl rfl)
theorem dX12_poseNow_12 : decode cX12_poseNow 12 = .ok (.invokevirtual 85, 3) := dk_182 0 85 (dk_at dksX12_poseNow_0 12 rfl rfl)
theorem dX12_poseNow_15 : decode cX12_poseNow 15 = .ok (.ifCond .eq 7, 3) := dk_153 0 7 (dk_at dksX12_poseNow_0 15 rfl rfl)
theorem dX12_poseNow_18 : decode cX12_poseNow 18 = .ok (.iconst 0, 1) := dk_3 (dk_at dksX12_poseNow_0 18 rfl rfl)
theorem dX12_poseNow_19 : decode cX12_poseNow 19 = .ok (.goto 7, 3) := dk_167 0 7 (dk_at dksX12_poseNow_0 19 rfl rfl)
theorem dX12_poseNow_22 : decode cX12_poseNow 22 = .ok (.aload_n 0, 1) := dk_42 (dk_at dksX12_poseNow_0 22 rfl rfl)
theorem dX12_poseNow_23 : decode cX12_poseNow 23 = .ok (.invokevirtual 223, 3) := dk_182 0 223 (dk_at dksX12_poseNow_1 0 rfl rfl)
theorem dX12_poseNow_26 : decode cX12_poseNow 26 = .ok (.istore_n 1, 1) := dk_60 (dk_at dksX12_poseNow_1 3 rfl rfl)
theorem dX12_poseNow_27 : decode cX12_poseNow 27 = .ok (.aload_n 0, 1) := dk_42 (dk_at dksX12_poseNow_1 4 rfl rfl)
theorem dX12_poseNow_28 : decode cX12_poseNow 28 = .ok (.getfield 62, 3) := dk_180 0 62 (dk_at dksX12_poseNow_1 5 rfl rfl)
theorem dX12_poseNow_31 : decode cX12_poseNow 31 = .ok (.ifCond .eq 14, 3) := dk_153 0 14 (dk_at dksX12_poseNow_1 8 rfl rfl)
theorem dX12_poseNow_34 : decode cX12_poseNow 34 = .ok (.aload_n 0, 1) := dk_42 (dk_at dksX12_poseNow_1 11 rfl rfl)
theorem dX12_poseNow_35 : decode cX12_poseNow 35 = .ok (.ldc 230, 2) := dk_18 230 (dk_at dksX12_poseNow_1 12 rfl rfl)
theorem dX12_poseNow_37 : decode cX12_poseNow 37 = .ok (.iload_n 1, 1) := dk_27 (dk_at dksX12_poseNow_1 14 rfl rfl)
theorem dX12_poseNow_38 : decode cX12_poseNow 38 = .ok (.isub, 1) := dk_100 (dk_at dksX12_poseNow_1 15 rfl rfl)
theorem dX12_poseNow_39 : decode cX12_poseNow 39 = .ok (.invokevirtual 318, 3) := dk_182 1 62 (dk_at dksX12_poseNow_1 16 rfl rfl)
theorem dX12_poseNow_42 : decode cX12_poseNow 42 = .ok (.goto 15, 3) := dk_167 0 15 (dk_at dksX12_poseNow_1 19 rfl rfl)
theorem dX12_poseNow_45 : decode cX12_poseNow 45 = .ok (.aload_n 0, 1) := dk_42 (dk_at dksX12_poseNow_1 22 rfl rfl)
theorem dX12_poseNow_46 : decode cX12_poseNow 46 = .ok (.aload_n 0, 1) := dk_42 (dk_at dksX12_poseNow_1 23 rfl rfl)
theorem dX12_poseNow_47 : decode cX12_poseNow 47 = .ok (.getfield 45, 3) := dk_180 0 45 (dk_at dksX12_poseNow_2 0 rfl rfl)
theorem dX12_poseNow_50 : decode cX12_poseNow 50 = .ok (.ldc 230, 2) := dk_18 230 (dk_at dksX12_poseNow_2 3 rfl rfl)
theorem dX12_poseNow_52 : decode cX12_poseNow 52 = .ok (.iload_n 1, 1) := dk_27 (dk_at dksX12_poseNow_2 5 rfl rfl)
theorem dX12_poseNow_53 : decode cX12_poseNow 53 = .ok (.isub, 1) := dk_100 (dk_at dksX12_poseNow_2 6 rfl rfl)
theorem dX12_poseNow_54 : decode cX12_poseNow 54 = .ok (.invokevirtual 321, 3) := dk_182 1 65 (dk_at dksX12_poseNow_2 7 rfl rfl)
theorem dX12_poseNow_57 : decode cX12_poseNow 57 = .ok (.aload_n 0, 1) := dk_42 (dk_at dksX12_poseNow_2 10 rfl rfl)
theorem dX12_poseNow_58 : decode cX12_poseNow 58 = .ok (.invokevirtual 85, 3) := dk_182 0 85 (dk_at dksX12_poseNow_2 11 rfl rfl)
theorem dX12_poseNow_61 : decode cX12_poseNow 61 = .ok (.ifCond .ne 12, 3) := dk_154 0 12 (dk_at dksX12_poseNow_2 14 rfl rfl)
theorem dX12_poseNow_64 : decode cX12_poseNow 64 = .ok (.aload_n 0, 1) := dk_42 (dk_at dksX12_poseNow_2 17 rfl rfl)
theorem dX12_poseNow_65 : decode cX12_poseNow 65 = .ok (.aload_n 0, 1) := dk_42 (dk_at dksX12_poseNow_2 18 rfl rfl)
theorem dX12_poseNow_66 : decode cX12_poseNow 66 = .ok (.getfield 53, 3) := dk_180 0 53 (dk_at dksX12_poseNow_2 19 rfl rfl)
theorem dX12_poseNow_69 : decode cX12_poseNow 69 = .ok (.iload_n 1, 1) := dk_27 (dk_at dksX12_poseNow_2 22 rfl rfl)
theorem dX12_poseNow_70 : decode cX12_poseNow 70 = .ok (.invokevirtual 321, 3) := dk_182 1 65 (dk_at dksX12_poseNow_3 0 rfl rfl)
theorem dX12_poseNow_73 : decode cX12_poseNow 73 = .ok (.return_, 1) := dk_177 (dk_at dksX12_poseNow_3 3 rfl rfl)
abbrev cX12_targetShare : ByteArray := prog_9_method_6_code
def yX12_targetShare : MethodName := ⟨RX12, "targetShare", "()I"⟩
def dkwX12_targetShare_1 : List UInt8 := [192, 0, 105, 180, 0, 107, 133, 184, 0, 110, 172]
abbrev dktX12_targetShare_1 : List UInt8 := dkwX12_targetShare_1 ++ []
def dkwX12_targetShare_0 : List UInt8 := [20, 0, 93, 42, 180, 0, 56, 133, 42, 180, 0, 14, 180, 0, 95, 42, 180, 0, 23, 182, 0, 99]
abbrev dktX12_targetShare_0 : List UInt8 := dkwX12_targetShare_0 ++ dktX12_targetShare_1
theorem dksX12_targetShare_0 : cX12_targetShare.data.toList.drop 0 = dktX12_targetShare_0 := by decide +kernel
theorem dksX12_targetShare_1 : cX12_targetShare.data.toList.drop 22 = dktX12_targetShare_1 := dk_seg dksX12_targetShare_0 22 rfl rfl
theorem dX12_targetShare_0 : decode cX12_targetShare 0 = .ok (.ldc2_w 93, 3) := dk_20 0 93 (dk_at dksX12_targetShare_0 0 rfl rfl)
theorem dX12_targetShare_3 : decode cX12_targetShare 3 = .ok (.aload_n 0, 1) := dk_42 (dk_at dksX12_targetShare_0 3 rfl rfl)
theorem dX12_targetShare_4 : decode cX12_targetShare 4 = .ok (.getfield 56, 3) := dk_180 0 56 (dk_at dksX12_targetShare_0 4 rfl rfl)
theorem dX12_targetShare_7 : decode cX12_targetShare 7 = .ok (.i2l, 1) := dk_133 (dk_at dksX12_targetShare_0 7 rfl rfl)
theorem dX12_targetShare_8 : decode cX12_targetShare 8 = .ok (.aload_n 0, 1) := dk_42 (dk_at dksX12_targetShare_0 8 rfl rfl)
theorem dX12_targetShare_9 : decode cX12_targetShare 9 = .ok (.getfield 14, 3) := dk_180 0 14 (dk_at dksX12_targetShare_0 9 rfl rfl)
theorem dX12_targetShare_12 : decode cX12_targetShare 12 = .ok (.getfield 95, 3) := dk_180 0 95 (dk_at dksX12_targetShare_0 12 rfl rfl)
theorem dX12_targetShare_15 : decode cX12_targetShare 15 = .ok (.aload_n 0, 1) := dk_42 (dk_at dksX12_targetShare_0 15 rfl rfl)
theorem dX12_targetShare_16 : decode cX12_targetShare 16 = .ok (.getfield 23, 3) := dk_180 0 23 (dk_at dksX12_targetShare_0 16 rfl rfl)
theorem dX12_targetShare_19 : decode cX12_targetShare 19 = .ok (.invokevirtual 99, 3) := dk_182 0 99 (dk_at dksX12_targetShare_0 19 rfl rfl)
theorem dX12_targetShare_22 : decode cX12_targetShare 22 = .ok (.checkcast 105, 3) := dk_192 0 105 (dk_at dksX12_targetShare_1 0 rfl rfl)
theorem dX12_targetShare_25 : decode cX12_targetShare 25 = .ok (.getfield 107, 3) := dk_180 0 107 (dk_at dksX12_targetShare_1 3 rfl rfl)
theorem dX12_targetShare_28 : decode cX12_targetShare 28 = .ok (.i2l, 1) := dk_133 (dk_at dksX12_targetShare_1 6 rfl rfl)
theorem dX12_targetShare_29 : decode cX12_targetShare 29 = .ok (.invokestatic 110, 3) := dk_184 0 110 (dk_at dksX12_targetShare_1 7 rfl rfl)
theorem dX12_targetShare_32 : decode cX12_targetShare 32 = .ok (.ireturn, 1) := dk_172 (dk_at dksX12_targetShare_1 10 rfl rfl)
abbrev cX12_addFrozen : ByteArray := prog_9_method_25_code
def yX12_addFrozen : MethodName := ⟨RX12, "addFrozen", "(I)V"⟩
def dkwX12_addFrozen_5 : List UInt8 := [182, 1, 49, 132, 3, 1, 167, 255, 177, 177]
abbrev dktX12_addFrozen_5 : List UInt8 := dkwX12_addFrozen_5 ++ []
def dkwX12_addFrozen_4 : List UInt8 := [180, 0, 178, 42, 180, 0, 30, 180, 1, 56, 29, 46, 42, 180, 0, 30, 180, 1, 59, 29, 46, 21, 4]
abbrev dktX12_addFrozen_4 : List UInt8 := dkwX12_addFrozen_4 ++ dktX12_addFrozen_5
def dkwX12_addFrozen_3 : List UInt8 := [184, 0, 110, 29, 154, 0, 7, 28, 167, 0, 4, 3, 96, 54, 4, 21, 4, 158, 0, 33, 42, 180, 0, 14]
abbrev dktX12_addFrozen_3 : List UInt8 := dkwX12_addFrozen_3 ++ dktX12_addFrozen_4
def dkwX12_addFrozen_2 : List UInt8 := [180, 0, 30, 180, 1, 52, 162, 0, 74, 42, 180, 0, 30, 180, 1, 55, 29, 46, 133, 27, 133, 20, 0, 93]
abbrev dktX12_addFrozen_2 : List UInt8 := dkwX12_addFrozen_2 ++ dktX12_addFrozen_3
def dkwX12_addFrozen_1 : List UInt8 := [46, 133, 27, 133, 20, 0, 93, 184, 0, 110, 100, 61, 132, 3, 1, 167, 255, 221, 3, 62, 29, 42]
abbrev dktX12_addFrozen_1 : List UInt8 := dkwX12_addFrozen_1 ++ dktX12_addFrozen_2
def dkwX12_addFrozen_0 : List UInt8 := [27, 61, 3, 62, 29, 42, 180, 0, 30, 180, 1, 52, 162, 0, 30, 28, 42, 180, 0, 30, 180, 1, 55, 29]
abbrev dktX12_addFrozen_0 : List UInt8 := dkwX12_addFrozen_0 ++ dktX12_addFrozen_1
theorem dksX12_addFrozen_0 : cX12_addFrozen.data.toList.drop 0 = dktX12_addFrozen_0 := by decide +kernel
theorem dksX12_addFrozen_1 : cX12_addFrozen.data.toList.drop 24 = dktX12_addFrozen_1 := dk_seg dksX12_addFrozen_0 24 rfl rfl
theorem dksX12_addFrozen_2 : cX12_addFrozen.data.toList.drop 46 = dktX12_addFrozen_2 := dk_seg dksX12_addFrozen_1 22 rfl rfl
theorem dksX12_addFrozen_3 : cX12_addFrozen.data.toList.drop 70 = dktX12_addFrozen_3 := dk_seg dksX12_addFrozen_2 24 rfl rfl
theorem dksX12_addFrozen_4 : cX12_addFrozen.data.toList.drop 94 = dktX12_addFrozen_4 := dk_seg dksX12_addFrozen_3 24 rfl rfl
theorem dksX12_addFrozen_5 : cX12_addFrozen.data.toList.drop 117 = dktX12_addFrozen_5 := dk_seg dksX12_addFrozen_4 23 rfl rfl
theorem dX12_addFrozen_0 : decode cX12_addFrozen 0 = .ok (.iload_n 1, 1) := dk_27 (dk_at dksX12_addFrozen_0 0 rfl rfl)
theorem dX12_addFrozen_1 : decode cX12_addFrozen 1 = .ok (.istore_n 2, 1) := dk_61 (dk_at dksX12_addFrozen_0 1 rfl rfl)
theorem dX12_addFrozen_2 : decode cX12_addFrozen 2 = .ok (.iconst 0, 1) := dk_3 (dk_at dksX12_addFrozen_0 2 rfl rfl)
theorem dX12_addFrozen_3 : decode cX12_addFrozen 3 = .ok (.istore_n 3, 1) := dk_62 (dk_at dksX12_addFrozen_0 3 rfl rfl)
theorem dX12_addFrozen_4 : decode cX12_addFrozen 4 = .ok (.iload_n 3, 1) := dk_29 (dk_at dksX12_addFrozen_0 4 rfl rfl)
theorem dX12_addFrozen_5 : decode cX12_addFrozen 5 = .ok (.aload_n 0, 1) := dk_42 (dk_at dksX12_addFrozen_0 5 rfl rfl)
theorem dX12_addFrozen_6 : decode cX12_addFrozen 6 = .ok (.getfield 30, 3) := dk_180 0 30 (dk_at dksX12_addFrozen_0 6 rfl rfl)
theorem dX12_addFrozen_9 : decode cX12_addFrozen 9 = .ok (.getfield 308, 3) := dk_180 1 52 (dk_at dksX12_addFrozen_0 9 rfl rfl)
theorem dX12_addFrozen_12 : decode cX12_addFrozen 12 = .ok (.if_icmp .ge 30, 3) := dk_162 0 30 (dk_at dksX12_addFrozen_0 12 rfl rfl)
theorem dX12_addFrozen_15 : decode cX12_addFrozen 15 = .ok (.iload_n 2, 1) := dk_28 (dk_at dksX12_addFrozen_0 15 rfl rfl)
theorem dX12_addFrozen_16 : decode cX12_addFrozen 16 = .ok (.aload_n 0, 1) := dk_42 (dk_at dksX12_addFrozen_0 16 rfl rfl)
theorem dX12_addFrozen_17 : decode cX12_addFrozen 17 = .ok (.getfield 30, 3) := dk_180 0 30 (dk_at dksX12_addFrozen_0 17 rfl rfl)
theorem dX12_addFrozen_20 : decode cX12_addFrozen 20 = .ok (.getfield 311, 3) := dk_180 1 55 (dk_at dksX12_addFrozen_0 20 rfl rfl)
theorem dX12_addFrozen_23 : decode cX12_addFrozen 23 = .ok (.iload_n 3, 1) := dk_29 (dk_at dksX12_addFrozen_0 23 rfl rfl)
theorem dX12_addFrozen_24 : decode cX12_addFrozen 24 = .ok (.iaload, 1) := dk_46 (dk_at dksX12_addFrozen_1 0 rfl rfl)
theorem dX12_addFrozen_25 : decode cX12_addFrozen 25 = .ok (.i2l, 1) := dk_133 (dk_at dksX12_addFrozen_1 1 rfl rfl)
theorem dX12_addFrozen_26 : decode cX12_addFrozen 26 = .ok (.iload_n 1, 1) := dk_27 (dk_at dksX12_addFrozen_1 2 rfl rfl)
theorem dX12_addFrozen_27 : decode cX12_addFrozen 27 = .ok (.i2l, 1) := dk_133 (dk_at dksX12_addFrozen_1 3 rfl rfl)
theorem dX12_addFrozen_28 : decode cX12_addFrozen 28 = .ok (.ldc2_w 93, 3) := dk_20 0 93 (dk_at dksX12_addFrozen_1 4 rfl rfl)
theorem dX12_addFrozen_31 : decode cX12_addFrozen 31 = .ok (.invokestatic 110, 3) := dk_184 0 110 (dk_at dksX12_addFrozen_1 7 rfl rfl)
theorem dX12_addFrozen_34 : decode cX12_addFrozen 34 = .ok (.isub, 1) := dk_100 (dk_at dksX12_addFrozen_1 10 rfl rfl)
theorem dX12_addFrozen_35 : decode cX12_addFrozen 35 = .ok (.istore_n 2, 1) := dk_61 (dk_at dksX12_addFrozen_1 11 rfl rfl)
theorem dX12_addFrozen_36 : decode cX12_addFrozen 36 = .ok (.iinc 3 1, 3) := dk_132 3 1 (dk_at dksX12_addFrozen_1 12 rfl rfl)
theorem dX12_addFrozen_39 : decode cX12_addFrozen 39 = .ok (.goto (-35), 3) := dk_167 255 221 (dk_at dksX12_addFrozen_1 15 rfl rfl)
theorem dX12_addFrozen_42 : decode cX12_addFrozen 42 = .ok (.iconst 0, 1) := dk_3 (dk_at dksX12_addFrozen_1 18 rfl rfl)
theorem dX12_addFrozen_43 : decode cX12_addFrozen 43 = .ok (.istore_n 3, 1) := dk_62 (dk_at dksX12_addFrozen_1 19 rfl rfl)
theorem dX12_addFrozen_44 : decode cX12_addFrozen 44 = .ok (.iload_n 3, 1) := dk_29 (dk_at dksX12_addFrozen_1 20 rfl rfl)
theorem dX12_addFrozen_45 : decode cX12_addFrozen 45 = .ok (.aload_n 0, 1) := dk_42 (dk_at dksX12_addFrozen_1 21 rfl rfl)
theorem dX12_addFrozen_46 : decode cX12_addFrozen 46 = .ok (.getfield 30, 3) := dk_180 0 30 (dk_at dksX12_addFrozen_2 0 rfl rfl)
theorem dX12_addFrozen_49 : decode cX12_addFrozen 49 = .ok (.getfield 308, 3) := dk_180 1 52 (dk_at dksX12_addFrozen_2 3 rfl rfl)
theorem dX12_addFrozen_52 : decode cX12_addFrozen 52 = .ok (.if_icmp .ge 74, 3) := dk_162 0 74 (dk_at dksX12_addFrozen_2 6 rfl rfl)
theorem dX12_addFrozen_55 : decode cX12_addFrozen 55 = .ok (.aload_n 0, 1) := dk_42 (dk_at dksX12_addFrozen_2 9 rfl rfl)
theorem dX12_addFrozen_56 : decode cX12_addFrozen 56 = .ok (.getfield 30, 3) := dk_180 0 30 (dk_at dksX12_addFrozen_2 10 rfl rfl)
theorem dX12_addFrozen_59 : decode cX12_addFrozen 59 = .ok (.getfield 311, 3) := dk_180 1 55 (dk_at dksX12_addFrozen_2 13 rfl rfl)
theorem dX12_addFrozen_62 : decode cX12_addFrozen 62 = .ok (.iload_n 3, 1) := dk_29 (dk_at dksX12_addFrozen_2 16 rfl rfl)
theorem dX12_addFrozen_63 : decode cX12_addFrozen 63 = .ok (.iaload, 1) := dk_46 (dk_at dksX12_addFrozen_2 17 rfl rfl)
theorem dX12_addFrozen_64 : decode cX12_addFrozen 64 = .ok (.i2l, 1) := dk_133 (dk_at dksX12_addFrozen_2 18 rfl rfl)
theorem dX12_addFrozen_65 : decode cX12_addFrozen 65 = .ok (.iload_n 1, 1) := dk_27 (dk_at dksX12_addFrozen_2 19 rfl rfl)
theorem dX12_addFrozen_66 : decode cX12_addFrozen 66 = .ok (.i2l, 1) := dk_133 (dk_at dksX12_addFrozen_2 20 rfl rfl)
theorem dX12_addFrozen_67 : decode cX12_addFrozen 67 = .ok (.ldc2_w 93, 3) := dk_20 0 93 (dk_at dksX12_addFrozen_2 21 rfl rfl)
theorem dX12_addFrozen_70 : decode cX12_addFrozen 70 = .ok (.invokestatic 110, 3) := dk_184 0 110 (dk_at dksX12_addFrozen_3 0 rfl rfl)
theorem dX12_addFrozen_73 : decode cX12_addFrozen 73 = .ok (.iload_n 3, 1) := dk_29 (dk_at dksX12_addFrozen_3 3 rfl rfl)
theorem dX12_addFrozen_74 : decode cX12_addFrozen 74 = .ok (.ifCond .ne 7, 3) := dk_154 0 7 (dk_at dksX12_addFrozen_3 4 rfl rfl)
theorem dX12_addFrozen_77 : decode cX12_addFrozen 77 = .ok (.iload_n 2, 1) := dk_28 (dk_at dksX12_addFrozen_3 7 rfl rfl)
theorem dX12_addFrozen_78 : decode cX12_addFrozen 78 = .ok (.goto 4, 3) := dk_167 0 4 (dk_at dksX12_addFrozen_3 8 rfl rfl)
theorem dX12_addFrozen_81 : decode cX12_addFrozen 81 = .ok (.iconst 0, 1) := dk_3 (dk_at dksX12_addFrozen_3 11 rfl rfl)
theorem dX12_addFrozen_82 : decode cX12_addFrozen 82 = .ok (.iadd, 1) := dk_96 (dk_at dksX12_addFrozen_3 12 rfl rfl)
theorem dX12_addFrozen_83 : decode cX12_addFrozen 83 = .ok (.istore 4, 2) := dk_54 4 (dk_at dksX12_addFrozen_3 13 rfl rfl)
theorem dX12_addFrozen_85 : decode cX12_addFrozen 85 = .ok (.iload 4, 2) := dk_21 4 (dk_at dksX12_addFrozen_3 15 rfl rfl)
theorem dX12_addFrozen_87 : decode cX12_addFrozen 87 = .ok (.ifCond .le 33, 3) := dk_158 0 33 (dk_at dksX12_addFrozen_3 17 rfl rfl)
theorem dX12_addFrozen_90 : decode cX12_addFrozen 90 = .ok (.aload_n 0, 1) := dk_42 (dk_at dksX12_addFrozen_3 20 rfl rfl)
theorem dX12_addFrozen_91 : decode cX12_addFrozen 91 = .ok (.getfield 14, 3) := dk_180 0 14 (dk_at dksX12_addFrozen_3 21 rfl rfl)
theorem dX12_addFrozen_94 : decode cX12_addFrozen 94 = .ok (.getfield 178, 3) := dk_180 0 178 (dk_at dksX12_addFrozen_4 0 rfl rfl)
theorem dX12_addFrozen_97 : decode cX12_addFrozen 97 = .ok (.aload_n 0, 1) := dk_42 (dk_at dksX12_addFrozen_4 3 rfl rfl)
theorem dX12_addFrozen_98 : decode cX12_addFrozen 98 = .ok (.getfield 30, 3) := dk_180 0 30 (dk_at dksX12_addFrozen_4 4 rfl rfl)
theorem dX12_addFrozen_101 : decode cX12_addFrozen 101 = .ok (.getfield 312, 3) := dk_180 1 56 (dk_at dksX12_addFrozen_4 7 rfl rfl)
theorem dX12_addFrozen_104 : decode cX12_addFrozen 104 = .ok (.iload_n 3, 1) := dk_29 (dk_at dksX12_addFrozen_4 10 rfl rfl)
theorem dX12_addFrozen_105 : decode cX12_addFrozen 105 = .ok (.iaload, 1) := dk_46 (dk_at dksX12_addFrozen_4 11 rfl rfl)
theorem dX12_addFrozen_106 : decode cX12_addFrozen 106 = .ok (.aload_n 0, 1) := dk_42 (dk_at dksX12_addFrozen_4 12 rfl rfl)
theorem dX12_addFrozen_107 : decode cX12_addFrozen 107 = .ok (.getfield 30, 3) := dk_180 0 30 (dk_at dksX12_addFrozen_4 13 rfl rfl)
theorem dX12_addFrozen_110 : decode cX12_addFrozen 110 = .ok (.getfield 315, 3) := dk_180 1 59 (dk_at dksX12_addFrozen_4 16 rfl rfl)
theorem dX12_addFrozen_113 : decode cX12_addFrozen 113 = .ok (.iload_n 3, 1) := dk_29 (dk_at dksX12_addFrozen_4 19 rfl rfl)
theorem dX12_addFrozen_114 : decode cX12_addFrozen 114 = .ok (.iaload, 1) := dk_46 (dk_at dksX12_addFrozen_4 20 rfl rfl)
theorem dX12_addFrozen_115 : decode cX12_addFrozen 115 = .ok (.iload 4, 2) := dk_21 4 (dk_at dksX12_addFrozen_4 21 rfl rfl)
theorem dX12_addFrozen_117 : decode cX12_addFrozen 117 = .ok (.invokevirtual 305, 3) := dk_182 1 49 (dk_at dksX12_addFrozen_5 0 rfl rfl)
theorem dX12_addFrozen_120 : decode cX12_addFrozen 120 = .ok (.iinc 3 1, 3) := dk_132 3 1 (dk_at dksX12_addFrozen_5 3 rfl rfl)
theorem dX12_addFrozen_123 : decode cX12_addFrozen 123 = .ok (.goto (-79), 3) := dk_167 255 177 (dk_at dksX12_addFrozen_5 6 rfl rfl)
theorem dX12_addFrozen_126 : decode cX12_addFrozen 126 = .ok (.return_, 1) := dk_177 (dk_at dksX12_addFrozen_5 9 rfl rfl)
abbrev cX12_addPose : ByteArray := prog_9_method_24_code
def yX12_addPose : MethodName := ⟨RX12, "addPose", "(LAnimationController$Track;I)V"⟩
def dkwX12_addPose_4 : List UInt8 := [182, 1, 49, 132, 3, 1, 167, 255, 180, 177]
abbrev dktX12_addPose_4 : List UInt8 := dkwX12_addPose_4 ++ []
def dkwX12_addPose_3 : List UInt8 := [192, 1, 11, 43, 180, 0, 187, 182, 1, 46, 42, 180, 0, 14, 180, 1, 43, 180, 1, 3, 29, 46]
abbrev dktX12_addPose_3 : List UInt8 := dkwX12_addPose_3 ++ dktX12_addPose_4
def dkwX12_addPose_2 : List UInt8 := [29, 46, 158, 0, 47, 42, 180, 0, 14, 180, 0, 178, 29, 42, 180, 0, 14, 180, 1, 0, 29, 182, 0, 99]
abbrev dktX12_addPose_2 : List UInt8 := dkwX12_addPose_2 ++ dktX12_addPose_3
def dkwX12_addPose_1 : List UInt8 := [29, 42, 180, 0, 14, 180, 1, 0, 182, 0, 120, 162, 0, 68, 42, 180, 0, 14, 180, 1, 43, 180, 1, 3]
abbrev dktX12_addPose_1 : List UInt8 := dkwX12_addPose_1 ++ dktX12_addPose_2
def dkwX12_addPose_0 : List UInt8 := [42, 180, 0, 14, 42, 180, 0, 14, 180, 1, 43, 43, 180, 0, 89, 180, 0, 248, 28, 182, 0, 252, 3, 62]
abbrev dktX12_addPose_0 : List UInt8 := dkwX12_addPose_0 ++ dktX12_addPose_1
theorem dksX12_addPose_0 : cX12_addPose.data.toList.drop 0 = dktX12_addPose_0 := by decide +kernel
theorem dksX12_addPose_1 : cX12_addPose.data.toList.drop 24 = dktX12_addPose_1 := dk_seg dksX12_addPose_0 24 rfl rfl
theorem dksX12_addPose_2 : cX12_addPose.data.toList.drop 48 = dktX12_addPose_2 := dk_seg dksX12_addPose_1 24 rfl rfl
theorem dksX12_addPose_3 : cX12_addPose.data.toList.drop 72 = dktX12_addPose_3 := dk_seg dksX12_addPose_2 24 rfl rfl
theorem dksX12_addPose_4 : cX12_addPose.data.toList.drop 94 = dktX12_addPose_4 := dk_seg dksX12_addPose_3 22 rfl rfl
theorem dX12_addPose_0 : decode cX12_addPose 0 = .ok (.aload_n 0, 1) := dk_42 (dk_at dksX12_addPose_0 0 rfl rfl)
theorem dX12_addPose_1 : decode cX12_addPose 1 = .ok (.getfield 14, 3) := dk_180 0 14 (dk_at dksX12_addPose_0 1 rfl rfl)
theorem dX12_addPose_4 : decode cX12_addPose 4 = .ok (.aload_n 0, 1) := dk_42 (dk_at dksX12_addPose_0 4 rfl rfl)
theorem dX12_addPose_5 : decode cX12_addPose 5 = .ok (.getfield 14, 3) := dk_180 0 14 (dk_at dksX12_addPose_0 5 rfl rfl)
theorem dX12_addPose_8 : decode cX12_addPose 8 = .ok (.getfield 299, 3) := dk_180 1 43 (dk_at dksX12_addPose_0 8 rfl rfl)
theorem dX12_addPose_11 : decode cX12_addPose 11 = .ok (.aload_n 1, 1) := dk_43 (dk_at dksX12_addPose_0 11 rfl rfl)
theorem dX12_addPose_12 : decode cX12_addPose 12 = .ok (.getfield 89, 3) := dk_180 0 89 (dk_at dksX12_addPose_0 12 rfl rfl)
theorem dX12_addPose_15 : decode cX12_addPose 15 = .ok (.getfield 248, 3) := dk_180 0 248 (dk_at dksX12_addPose_0 15 rfl rfl)
theorem dX12_addPose_18 : decode cX12_addPose 18 = .ok (.iload_n 2, 1) := dk_28 (dk_at dksX12_addPose_0 18 rfl rfl)
theorem dX12_addPose_19 : decode cX12_addPose 19 = .ok (.invokevirtual 252, 3) := dk_182 0 252 (dk_at dksX12_addPose_0 19 rfl rfl)
theorem dX12_addPose_22 : decode cX12_addPose 22 = .ok (.iconst 0, 1) := dk_3 (dk_at dksX12_addPose_0 22 rfl rfl)
theorem dX12_addPose_23 : decode cX12_addPose 23 = .ok (.istore_n 3, 1) := dk_62 (dk_at dksX12_addPose_0 23 rfl rfl)
theorem dX12_addPose_24 : decode cX12_addPose 24 = .ok (.iload_n 3, 1) := dk_29 (dk_at dksX12_addPose_1 0 rfl rfl)
theorem dX12_addPose_25 : decode cX12_addPose 25 = .ok (.aload_n 0, 1) := dk_42 (dk_at dksX12_addPose_1 1 rfl rfl)
theorem dX12_addPose_26 : decode cX12_addPose 26 = .ok (.getfield 14, 3) := dk_180 0 14 (dk_at dksX12_addPose_1 2 rfl rfl)
theorem dX12_addPose_29 : decode cX12_addPose 29 = .ok (.getfield 256, 3) := dk_180 1 0 (dk_at dksX12_addPose_1 5 rfl rfl)
theorem dX12_addPose_32 : decode cX12_addPose 32 = .ok (.invokevirtual 120, 3) := dk_182 0 120 (dk_at dksX12_addPose_1 8 rfl rfl)
theorem dX12_addPose_35 : decode cX12_addPose 35 = .ok (.if_icmp .ge 68, 3) := dk_162 0 68 (dk_at dksX12_addPose_1 11 rfl rfl)
theorem dX12_addPose_38 : decode cX12_addPose 38 = .ok (.aload_n 0, 1) := dk_42 (dk_at dksX12_addPose_1 14 rfl rfl)
theorem dX12_addPose_39 : decode cX12_addPose 39 = .ok (.getfield 14, 3) := dk_180 0 14 (dk_at dksX12_addPose_1 15 rfl rfl)
theorem dX12_addPose_42 : decode cX12_addPose 42 = .ok (.getfield 299, 3) := dk_180 1 43 (dk_at dksX12_addPose_1 18 rfl rfl)
theorem dX12_addPose_45 : decode cX12_addPose 45 = .ok (.getfield 259, 3) := dk_180 1 3 (dk_at dksX12_addPose_1 21 rfl rfl)
theorem dX12_addPose_48 : decode cX12_addPose 48 = .ok (.iload_n 3, 1) := dk_29 (dk_at dksX12_addPose_2 0 rfl rfl)
theorem dX12_addPose_49 : decode cX12_addPose 49 = .ok (.iaload, 1) := dk_46 (dk_at dksX12_addPose_2 1 rfl rfl)
theorem dX12_addPose_50 : decode cX12_addPose 50 = .ok (.ifCond .le 47, 3) := dk_158 0 47 (dk_at dksX12_addPose_2 2 rfl rfl)
theorem dX12_addPose_53 : decode cX12_addPose 53 = .ok (.aload_n 0, 1) := dk_42 (dk_at dksX12_addPose_2 5 rfl rfl)
theorem dX12_addPose_54 : decode cX12_addPose 54 = .ok (.getfield 14, 3) := dk_180 0 14 (dk_at dksX12_addPose_2 6 rfl rfl)
theorem dX12_addPose_57 : decode cX12_addPose 57 = .ok (.getfield 178, 3) := dk_180 0 178 (dk_at dksX12_addPose_2 9 rfl rfl)
theorem dX12_addPose_60 : decode cX12_addPose 60 = .ok (.iload_n 3, 1) := dk_29 (dk_at dksX12_addPose_2 12 rfl rfl)
theorem dX12_addPose_61 : decode cX12_addPose 61 = .ok (.aload_n 0, 1) := dk_42 (dk_at dksX12_addPose_2 13 rfl rfl)
theorem dX12_addPose_62 : decode cX12_addPose 62 = .ok (.getfield 14, 3) := dk_180 0 14 (dk_at dksX12_addPose_2 14 rfl rfl)
theorem dX12_addPose_65 : decode cX12_addPose 65 = .ok (.getfield 256, 3) := dk_180 1 0 (dk_at dksX12_addPose_2 17 rfl rfl)
theorem dX12_addPose_68 : decode cX12_addPose 68 = .ok (.iload_n 3, 1) := dk_29 (dk_at dksX12_addPose_2 20 rfl rfl)
theorem dX12_addPose_69 : decode cX12_addPose 69 = .ok (.invokevirtual 99, 3) := dk_182 0 99 (dk_at dksX12_addPose_2 21 rfl rfl)
theorem dX12_addPose_72 : decode cX12_addPose 72 = .ok (.checkcast 267, 3) := dk_192 1 11 (dk_at dksX12_addPose_3 0 rfl rfl)
theorem dX12_addPose_75 : decode cX12_addPose 75 = .ok (.aload_n 1, 1) := dk_43 (dk_at dksX12_addPose_3 3 rfl rfl)
theorem dX12_addPose_76 : decode cX12_addPose 76 = .ok (.getfield 187, 3) := dk_180 0 187 (dk_at dksX12_addPose_3 4 rfl rfl)
theorem dX12_addPose_79 : decode cX12_addPose 79 = .ok (.invokevirtual 302, 3) := dk_182 1 46 (dk_at dksX12_addPose_3 7 rfl rfl)
theorem dX12_addPose_82 : decode cX12_addPose 82 = .ok (.aload_n 0, 1) := dk_42 (dk_at dksX12_addPose_3 10 rfl rfl)
theorem dX12_addPose_83 : decode cX12_addPose 83 = .ok (.getfield 14, 3) := dk_180 0 14 (dk_at dksX12_addPose_3 11 rfl rfl)
theorem dX12_addPose_86 : decode cX12_addPose 86 = .ok (.getfield 299, 3) := dk_180 1 43 (dk_at dksX12_addPose_3 14 rfl rfl)
theorem dX12_addPose_89 : decode cX12_addPose 89 = .ok (.getfield 259, 3) := dk_180 1 3 (dk_at dksX12_addPose_3 17 rfl rfl)
theorem dX12_addPose_92 : decode cX12_addPose 92 = .ok (.iload_n 3, 1) := dk_29 (dk_at dksX12_addPose_3 20 rfl rfl)
theorem dX12_addPose_93 : decode cX12_addPose 93 = .ok (.iaload, 1) := dk_46 (dk_at dksX12_addPose_3 21 rfl rfl)
theorem dX12_addPose_94 : decode cX12_addPose 94 = .ok (.invokevirtual 305, 3) := dk_182 1 49 (dk_at dksX12_addPose_4 0 rfl rfl)
theorem dX12_addPose_97 : decode cX12_addPose 97 = .ok (.iinc 3 1, 3) := dk_132 3 1 (dk_at dksX12_addPose_4 3 rfl rfl)
theorem dX12_addPose_100 : decode cX12_addPose 100 = .ok (.goto (-76), 3) := dk_167 255 180 (dk_at dksX12_addPose_4 6 rfl rfl)
theorem dX12_addPose_103 : decode cX12_addPose 103 = .ok (.return_, 1) := dk_177 (dk_at dksX12_addPose_4 9 rfl rfl)
abbrev cX12_run : ByteArray := prog_9_method_20_code
def yX12_run : MethodName := ⟨RX12, "run", "()I"⟩
def dkwX12_run_9 : List UInt8 := [180, 0, 53, 29, 182, 0, 240, 42, 180, 0, 79, 21, 4, 100, 172]
abbrev dktX12_run_9 : List UInt8 := dkwX12_run_9 ++ []
def dkwX12_run_8 : List UInt8 := [44, 18, 230, 29, 100, 182, 0, 240, 42, 42, 182, 0, 85, 153, 0, 10, 42, 180, 0, 45, 167, 0, 7, 42]
abbrev dktX12_run_8 : List UInt8 := dkwX12_run_8 ++ dktX12_run_9
def dkwX12_run_7 : List UInt8 := [182, 0, 203, 42, 89, 180, 0, 82, 4, 96, 181, 0, 82, 42, 180, 0, 79, 54, 4, 44, 198, 0, 12, 42]
abbrev dktX12_run_7 : List UInt8 := dkwX12_run_7 ++ dktX12_run_8
def dkwX12_run_6 : List UInt8 := [180, 0, 14, 180, 0, 95, 42, 180, 0, 23, 182, 0, 99, 192, 0, 105, 180, 0, 107, 160, 0, 7, 42]
abbrev dktX12_run_6 : List UInt8 := dkwX12_run_6 ++ dktX12_run_7
def dkwX12_run_5 : List UInt8 := [154, 0, 49, 42, 89, 180, 0, 56, 4, 96, 181, 0, 56, 42, 182, 0, 223, 62, 42, 180, 0, 56, 42]
abbrev dktX12_run_5 : List UInt8 := dkwX12_run_5 ++ dktX12_run_6
def dkwX12_run_4 : List UInt8 := [198, 0, 8, 42, 44, 182, 0, 234, 42, 42, 180, 0, 53, 182, 0, 234, 18, 230, 62, 42, 182, 0, 85]
abbrev dktX12_run_4 : List UInt8 := dkwX12_run_4 ++ dktX12_run_5
def dkwX12_run_3 : List UInt8 := [180, 0, 89, 42, 180, 0, 53, 180, 0, 89, 182, 0, 181, 153, 0, 10, 42, 182, 0, 237, 167, 0, 20, 44]
abbrev dktX12_run_3 : List UInt8 := dkwX12_run_3 ++ dktX12_run_4
def dkwX12_run_2 : List UInt8 := [182, 0, 85, 153, 0, 14, 42, 42, 180, 0, 45, 182, 0, 234, 167, 0, 48, 44, 198, 0, 27, 44]
abbrev dktX12_run_2 : List UInt8 := dkwX12_run_2 ++ dktX12_run_3
def dkwX12_run_1 : List UInt8 := [42, 182, 0, 85, 154, 0, 10, 42, 180, 0, 62, 153, 0, 7, 1, 167, 0, 7, 42, 180, 0, 45, 77, 42]
abbrev dktX12_run_1 : List UInt8 := dkwX12_run_1 ++ dktX12_run_2
def dkwX12_run_0 : List UInt8 := [4, 60, 3, 61, 28, 7, 162, 0, 18, 27, 153, 0, 14, 42, 182, 0, 231, 60, 132, 2, 1, 167, 255, 239]
abbrev dktX12_run_0 : List UInt8 := dkwX12_run_0 ++ dktX12_run_1
theorem dksX12_run_0 : cX12_run.data.toList.drop 0 = dktX12_run_0 := by decide +kernel
theorem dksX12_run_1 : cX12_run.data.toList.drop 24 = dktX12_run_1 := dk_seg dksX12_run_0 24 rfl rfl
theorem dksX12_run_2 : cX12_run.data.toList.drop 48 = dktX12_run_2 := dk_seg dksX12_run_1 24 rfl rfl
theorem dksX12_run_3 : cX12_run.data.toList.drop 70 = dktX12_run_3 := dk_seg dksX12_run_2 22 rfl rfl
theorem dksX12_run_4 : cX12_run.data.toList.drop 94 = dktX12_run_4 := dk_seg dksX12_run_3 24 rfl rfl
theorem dksX12_run_5 : cX12_run.data.toList.drop 117 = dktX12_run_5 := dk_seg dksX12_run_4 23 rfl rfl
theorem dksX12_run_6 : cX12_run.data.toList.drop 140 = dktX12_run_6 := dk_seg dksX12_run_5 23 rfl rfl
theorem dksX12_run_7 : cX12_run.data.toList.drop 163 = dktX12_run_7 := dk_seg dksX12_run_6 23 rfl rfl
theorem dksX12_run_8 : cX12_run.data.toList.drop 187 = dktX12_run_8 := dk_seg dksX12_run_7 24 rfl rfl
theorem dksX12_run_9 : cX12_run.data.toList.drop 211 = dktX12_run_9 := dk_seg dksX12_run_8 24 rfl rfl
theorem dX12_run_0 : decode cX12_run 0 = .ok (.iconst 1, 1) := dk_4 (dk_at dksX12_run_0 0 rfl rfl)
theorem dX12_run_1 : decode cX12_run 1 = .ok (.istore_n 1, 1) := dk_60 (dk_at dksX12_run_0 1 rfl rfl)
theorem dX12_run_2 : decode cX12_run 2 = .ok (.iconst 0, 1) := dk_3 (dk_at dksX12_run_0 2 rfl rfl)
theorem dX12_run_3 : decode cX12_run 3 = .ok (.istore_n 2, 1) := dk_61 (dk_at dksX12_run_0 3 rfl rfl)
theorem dX12_run_4 : decode cX12_run 4 = .ok (.iload_n 2, 1) := dk_28 (dk_at dksX12_run_0 4 rfl rfl)
theorem dX12_run_5 : decode cX12_run 5 = .ok (.iconst 4, 1) := dk_7 (dk_at dksX12_run_0 5 rfl rfl)
theorem dX12_run_6 : decode cX12_run 6 = .ok (.if_icmp .ge 18, 3) := dk_162 0 18 (dk_at dksX12_run_0 6 rfl rfl)
theorem dX12_run_9 : decode cX12_run 9 = .ok (.iload_n 1, 1) := dk_27 (dk_at dksX12_run_0 9 rfl rfl)
theorem dX12_run_10 : decode cX12_run 10 = .ok (.ifCond .eq 14, 3) := dk_153 0 14 (dk_at dksX12_run_0 10 rfl rfl)
theorem dX12_run_13 : decode cX12_run 13 = .ok (.aload_n 0, 1) := dk_42 (dk_at dksX12_run_0 13 rfl rfl)
theorem dX12_run_14 : decode cX12_run 14 = .ok (.invokevirtual 231, 3) := dk_182 0 231 (dk_at dksX12_run_0 14 rfl rfl)
theorem dX12_run_17 : decode cX12_run 17 = .ok (.istore_n 1, 1) := dk_60 (dk_at dksX12_run_0 17 rfl rfl)
theorem dX12_run_18 : decode cX12_run 18 = .ok (.iinc 2 1, 3) := dk_132 2 1 (dk_at dksX12_run_0 18 rfl rfl)
theorem dX12_run_21 : decode cX12_run 21 = .ok (.goto (-17), 3) := dk_167 255 239 (dk_at dksX12_run_0 21 rfl rfl)
theorem dX12_run_24 : decode cX12_run 24 = .ok (.aload_n 0, 1) := dk_42 (dk_at dksX12_run_1 0 rfl rfl)
theorem dX12_run_25 : decode cX12_run 25 = .ok (.invokevirtual 85, 3) := dk_182 0 85 (dk_at dksX12_run_1 1 rfl rfl)
theorem dX12_run_28 : decode cX12_run 28 = .ok (.ifCond .ne 10, 3) := dk_154 0 10 (dk_at dksX12_run_1 4 rfl rfl)
theorem dX12_run_31 : decode cX12_run 31 = .ok (.aload_n 0, 1) := dk_42 (dk_at dksX12_run_1 7 rfl rfl)
theorem dX12_run_32 : decode cX12_run 32 = .ok (.getfield 62, 3) := dk_180 0 62 (dk_at dksX12_run_1 8 rfl rfl)
theorem dX12_run_35 : decode cX12_run 35 = .ok (.ifCond .eq 7, 3) := dk_153 0 7 (dk_at dksX12_run_1 11 rfl rfl)
theorem dX12_run_38 : decode cX12_run 38 = .ok (.aconst_null, 1) := dk_1 (dk_at dksX12_run_1 14 rfl rfl)
theorem dX12_run_39 : decode cX12_run 39 = .ok (.goto 7, 3) := dk_167 0 7 (dk_at dksX12_run_1 15 rfl rfl)
theorem dX12_run_42 : decode cX12_run 42 = .ok (.aload_n 0, 1) := dk_42 (dk_at dksX12_run_1 18 rfl rfl)
theorem dX12_run_43 : decode cX12_run 43 = .ok (.getfield 45, 3) := dk_180 0 45 (dk_at dksX12_run_1 19 rfl rfl)
theorem dX12_run_46 : decode cX12_run 46 = .ok (.astore_n 2, 1) := dk_77 (dk_at dksX12_run_1 22 rfl rfl)
theorem dX12_run_47 : decode cX12_run 47 = .ok (.aload_n 0, 1) := dk_42 (dk_at dksX12_run_1 23 rfl rfl)
theorem dX12_run_48 : decode cX12_run 48 = .ok (.invokevirtual 85, 3) := dk_182 0 85 (dk_at dksX12_run_2 0 rfl rfl)
theorem dX12_run_51 : decode cX12_run 51 = .ok (.ifCond .eq 14, 3) := dk_153 0 14 (dk_at dksX12_run_2 3 rfl rfl)
theorem dX12_run_54 : decode cX12_run 54 = .ok (.aload_n 0, 1) := dk_42 (dk_at dksX12_run_2 6 rfl rfl)
theorem dX12_run_55 : decode cX12_run 55 = .ok (.aload_n 0, 1) := dk_42 (dk_at dksX12_run_2 7 rfl rfl)
theorem dX12_run_56 : decode cX12_run 56 = .ok (.getfield 45, 3) := dk_180 0 45 (dk_at dksX12_run_2 8 rfl rfl)
theorem dX12_run_59 : decode cX12_run 59 = .ok (.invokevirtual 234, 3) := dk_182 0 234 (dk_at dksX12_run_2 11 rfl rfl)
theorem dX12_run_62 : decode cX12_run 62 = .ok (.goto 48, 3) := dk_167 0 48 (dk_at dksX12_run_2 14 rfl rfl)
theorem dX12_run_65 : decode cX12_run 65 = .ok (.aload_n 2, 1) := dk_44 (dk_at dksX12_run_2 17 rfl rfl)
theorem dX12_run_66 : decode cX12_run 66 = .ok (.ifnull 27, 3) := dk_198 0 27 (dk_at dksX12_run_2 18 rfl rfl)
theorem dX12_run_69 : decode cX12_run 69 = .ok (.aload_n 2, 1) := dk_44 (dk_at dksX12_run_2 21 rfl rfl)
theorem dX12_run_70 : decode cX12_run 70 = .ok (.getfield 89, 3) := dk_180 0 89 (dk_at dksX12_run_3 0 rfl rfl)
theorem dX12_run_73 : decode cX12_run 73 = .ok (.aload_n 0, 1) := dk_42 (dk_at dksX12_run_3 3 rfl rfl)
theorem dX12_run_74 : decode cX12_run 74 = .ok (.getfield 53, 3) := dk_180 0 53 (dk_at dksX12_run_3 4 rfl rfl)
theorem dX12_run_77 : decode cX12_run 77 = .ok (.getfield 89, 3) := dk_180 0 89 (dk_at dksX12_run_3 7 rfl rfl)
theorem dX12_run_80 : decode cX12_run 80 = .ok (.invokevirtual 181, 3) := dk_182 0 181 (dk_at dksX12_run_3 10 rfl rfl)
theorem dX12_run_83 : decode cX12_run 83 = .ok (.ifCond .eq 10, 3) := dk_153 0 10 (dk_at dksX12_run_3 13 rfl rfl)
theorem dX12_run_86 : decode cX12_run 86 = .ok (.aload_n 0, 1) := dk_42 (dk_at dksX12_run_3 16 rfl rfl)
theorem dX12_run_87 : decode cX12_run 87 = .ok (.invokevirtual 237, 3) := dk_182 0 237 (dk_at dksX12_run_3 17 rfl rfl)
theorem dX12_run_90 : decode cX12_run 90 = .ok (.goto 20, 3) := dk_167 0 20 (dk_at dksX12_run_3 20 rfl rfl)
theorem dX12_run_93 : decode cX12_run 93 = .ok (.aload_n 2, 1) := dk_44 (dk_at dksX12_run_3 23 rfl rfl)
theorem dX12_run_94 : decode cX12_run 94 = .ok (.ifnull 8, 3) := dk_198 0 8 (dk_at dksX12_run_4 0 rfl rfl)
theorem dX12_run_97 : decode cX12_run 97 = .ok (.aload_n 0, 1) := dk_42 (dk_at dksX12_run_4 3 rfl rfl)
theorem dX12_run_98 : decode cX12_run 98 = .ok (.aload_n 2, 1) := dk_44 (dk_at dksX12_run_4 4 rfl rfl)
theorem dX12_run_99 : decode cX12_run 99 = .ok (.invokevirtual 234, 3) := dk_182 0 234 (dk_at dksX12_run_4 5 rfl rfl)
theorem dX12_run_102 : decode cX12_run 102 = .ok (.aload_n 0, 1) := dk_42 (dk_at dksX12_run_4 8 rfl rfl)
theorem dX12_run_103 : decode cX12_run 103 = .ok (.aload_n 0, 1) := dk_42 (dk_at dksX12_run_4 9 rfl rfl)
theorem dX12_run_104 : decode cX12_run 104 = .ok (.getfield 53, 3) := dk_180 0 53 (dk_at dksX12_run_4 10 rfl rfl)
theorem dX12_run_107 : decode cX12_run 107 = .ok (.invokevirtual 234, 3) := dk_182 0 234 (dk_at dksX12_run_4 13 rfl rfl)
theorem dX12_run_110 : decode cX12_run 110 = .ok (.ldc 230, 2) := dk_18 230 (dk_at dksX12_run_4 16 rfl rfl)
theorem dX12_run_112 : decode cX12_run 112 = .ok (.istore_n 3, 1) := dk_62 (dk_at dksX12_run_4 18 rfl rfl)
theorem dX12_run_113 : decode cX12_run 113 = .ok (.aload_n 0, 1) := dk_42 (dk_at dksX12_run_4 19 rfl rfl)
theorem dX12_run_114 : decode cX12_run 114 = .ok (.invokevirtual 85, 3) := dk_182 0 85 (dk_at dksX12_run_4 20 rfl rfl)
theorem dX12_run_117 : decode cX12_run 117 = .ok (.ifCond .ne 49, 3) := dk_154 0 49 (dk_at dksX12_run_5 0 rfl rfl)
theorem dX12_run_120 : decode cX12_run 120 = .ok (.aload_n 0, 1) := dk_42 (dk_at dksX12_run_5 3 rfl rfl)
theorem dX12_run_121 : decode cX12_run 121 = .ok (.dup, 1) := dk_89 (dk_at dksX12_run_5 4 rfl rfl)
theorem dX12_run_122 : decode cX12_run 122 = .ok (.getfield 56, 3) := dk_180 0 56 (dk_at dksX12_run_5 5 rfl rfl)
theorem dX12_run_125 : decode cX12_run 125 = .ok (.iconst 1, 1) := dk_4 (dk_at dksX12_run_5 8 rfl rfl)
theorem dX12_run_126 : decode cX12_run 126 = .ok (.iadd, 1) := dk_96 (dk_at dksX12_run_5 9 rfl rfl)
theorem dX12_run_127 : decode cX12_run 127 = .ok (.putfield 56, 3) := dk_181 0 56 (dk_at dksX12_run_5 10 rfl rfl)
theorem dX12_run_130 : decode cX12_run 130 = .ok (.aload_n 0, 1) := dk_42 (dk_at dksX12_run_5 13 rfl rfl)
theorem dX12_run_131 : decode cX12_run 131 = .ok (.invokevirtual 223, 3) := dk_182 0 223 (dk_at dksX12_run_5 14 rfl rfl)
theorem dX12_run_134 : decode cX12_run 134 = .ok (.istore_n 3, 1) := dk_62 (dk_at dksX12_run_5 17 rfl rfl)
theorem dX12_run_135 : decode cX12_run 135 = .ok (.aload_n 0, 1) := dk_42 (dk_at dksX12_run_5 18 rfl rfl)
theorem dX12_run_136 : decode cX12_run 136 = .ok (.getfield 56, 3) := dk_180 0 56 (dk_at dksX12_run_5 19 rfl rfl)
theorem dX12_run_139 : decode cX12_run 139 = .ok (.aload_n 0, 1) := dk_42 (dk_at dksX12_run_5 22 rfl rfl)
theorem dX12_run_140 : decode cX12_run 140 = .ok (.getfield 14, 3) := dk_180 0 14 (dk_at dksX12_run_6 0 rfl rfl)
theorem dX12_run_143 : decode cX12_run 143 = .ok (.getfield 95, 3) := dk_180 0 95 (dk_at dksX12_run_6 3 rfl rfl)
theorem dX12_run_146 : decode cX12_run 146 = .ok (.aload_n 0, 1) := dk_42 (dk_at dksX12_run_6 6 rfl rfl)
theorem dX12_run_147 : decode cX12_run 147 = .ok (.getfield 23, 3) := dk_180 0 23 (dk_at dksX12_run_6 7 rfl rfl)
theorem dX12_run_150 : decode cX12_run 150 = .ok (.invokevirtual 99, 3) := dk_182 0 99 (dk_at dksX12_run_6 10 rfl rfl)
theorem dX12_run_153 : decode cX12_run 153 = .ok (.checkcast 105, 3) := dk_192 0 105 (dk_at dksX12_run_6 13 rfl rfl)
theorem dX12_run_156 : decode cX12_run 156 = .ok (.getfield 107, 3) := dk_180 0 107 (dk_at dksX12_run_6 16 rfl rfl)
theorem dX12_run_159 : decode cX12_run 159 = .ok (.if_icmp .ne 7, 3) := dk_160 0 7 (dk_at dksX12_run_6 19 rfl rfl)
theorem dX12_run_162 : decode cX12_run 162 = .ok (.aload_n 0, 1) := dk_42 (dk_at dksX12_run_6 22 rfl rfl)
theorem dX12_run_163 : decode cX12_run 163 = .ok (.invokevirtual 203, 3) := dk_182 0 203 (dk_at dksX12_run_7 0 rfl rfl)
theorem dX12_run_166 : decode cX12_run 166 = .ok (.aload_n 0, 1) := dk_42 (dk_at dksX12_run_7 3 rfl rfl)
theorem dX12_run_167 : decode cX12_run 167 = .ok (.dup, 1) := dk_89 (dk_at dksX12_run_7 4 rfl rfl)
theorem dX12_run_168 : decode cX12_run 168 = .ok (.getfield 82, 3) := dk_180 0 82 (dk_at dksX12_run_7 5 rfl rfl)
theorem dX12_run_171 : decode cX12_run 171 = .ok (.iconst 1, 1) := dk_4 (dk_at dksX12_run_7 8 rfl rfl)
theorem dX12_run_172 : decode cX12_run 172 = .ok (.iadd, 1) := dk_96 (dk_at dksX12_run_7 9 rfl rfl)
theorem dX12_run_173 : decode cX12_run 173 = .ok (.putfield 82, 3) := dk_181 0 82 (dk_at dksX12_run_7 10 rfl rfl)
theorem dX12_run_176 : decode cX12_run 176 = .ok (.aload_n 0, 1) := dk_42 (dk_at dksX12_run_7 13 rfl rfl)
theorem dX12_run_177 : decode cX12_run 177 = .ok (.getfield 79, 3) := dk_180 0 79 (dk_at dksX12_run_7 14 rfl rfl)
theorem dX12_run_180 : decode cX12_run 180 = .ok (.istore 4, 2) := dk_54 4 (dk_at dksX12_run_7 17 rfl rfl)
theorem dX12_run_182 : decode cX12_run 182 = .ok (.aload_n 2, 1) := dk_44 (dk_at dksX12_run_7 19 rfl rfl)
theorem dX12_run_183 : decode cX12_run 183 = .ok (.ifnull 12, 3) := dk_198 0 12 (dk_at dksX12_run_7 20 rfl rfl)
theorem dX12_run_186 : decode cX12_run 186 = .ok (.aload_n 0, 1) := dk_42 (dk_at dksX12_run_7 23 rfl rfl)
theorem dX12_run_187 : decode cX12_run 187 = .ok (.aload_n 2, 1) := dk_44 (dk_at dksX12_run_8 0 rfl rfl)
theorem dX12_run_188 : decode cX12_run 188 = .ok (.ldc 230, 2) := dk_18 230 (dk_at dksX12_run_8 1 rfl rfl)
theorem dX12_run_190 : decode cX12_run 190 = .ok (.iload_n 3, 1) := dk_29 (dk_at dksX12_run_8 3 rfl rfl)
theorem dX12_run_191 : decode cX12_run 191 = .ok (.isub, 1) := dk_100 (dk_at dksX12_run_8 4 rfl rfl)
theorem dX12_run_192 : decode cX12_run 192 = .ok (.invokevirtual 240, 3) := dk_182 0 240 (dk_at dksX12_run_8 5 rfl rfl)
theorem dX12_run_195 : decode cX12_run 195 = .ok (.aload_n 0, 1) := dk_42 (dk_at dksX12_run_8 8 rfl rfl)
theorem dX12_run_196 : decode cX12_run 196 = .ok (.aload_n 0, 1) := dk_42 (dk_at dksX12_run_8 9 rfl rfl)
theorem dX12_run_197 : decode cX12_run 197 = .ok (.invokevirtual 85, 3) := dk_182 0 85 (dk_at dksX12_run_8 10 rfl rfl)
theorem dX12_run_200 : decode cX12_run 200 = .ok (.ifCond .eq 10, 3) := dk_153 0 10 (dk_at dksX12_run_8 13 rfl rfl)
theorem dX12_run_203 : decode cX12_run 203 = .ok (.aload_n 0, 1) := dk_42 (dk_at dksX12_run_8 16 rfl rfl)
theorem dX12_run_204 : decode cX12_run 204 = .ok (.getfield 45, 3) := dk_180 0 45 (dk_at dksX12_run_8 17 rfl rfl)
theorem dX12_run_207 : decode cX12_run 207 = .ok (.goto 7, 3) := dk_167 0 7 (dk_at dksX12_run_8 20 rfl rfl)
theorem dX12_run_210 : decode cX12_run 210 = .ok (.aload_n 0, 1) := dk_42 (dk_at dksX12_run_8 23 rfl rfl)
theorem dX12_run_211 : decode cX12_run 211 = .ok (.getfield 53, 3) := dk_180 0 53 (dk_at dksX12_run_9 0 rfl rfl)
theorem dX12_run_214 : decode cX12_run 214 = .ok (.iload_n 3, 1) := dk_29 (dk_at dksX12_run_9 3 rfl rfl)
theorem dX12_run_215 : decode cX12_run 215 = .ok (.invokevirtual 240, 3) := dk_182 0 240 (dk_at dksX12_run_9 4 rfl rfl)
theorem dX12_run_218 : decode cX12_run 218 = .ok (.aload_n 0, 1) := dk_42 (dk_at dksX12_run_9 7 rfl rfl)
theorem dX12_run_219 : decode cX12_run 219 = .ok (.getfield 79, 3) := dk_180 0 79 (dk_at dksX12_run_9 8 rfl rfl)
theorem dX12_run_222 : decode cX12_run 222 = .ok (.iload 4, 2) := dk_21 4 (dk_at dksX12_run_9 11 rfl rfl)
theorem dX12_run_224 : decode cX12_run 224 = .ok (.isub, 1) := dk_100 (dk_at dksX12_run_9 13 rfl rfl)
theorem dX12_run_225 : decode cX12_run 225 = .ok (.ireturn, 1) := dk_172 (dk_at dksX12_run_9 14 rfl rfl)
abbrev cX12_choose : ByteArray := prog_9_method_13_code
def yX12_choose : MethodName := ⟨RX12, "choose", "()Z"⟩
def dkwX12_choose_1 : List UInt8 := [182, 0, 168, 4, 172, 132, 1, 1, 167, 255, 230, 3, 172]
abbrev dktX12_choose_1 : List UInt8 := dkwX12_choose_1 ++ []
def dkwX12_choose_0 : List UInt8 := [42, 182, 0, 161, 3, 60, 27, 42, 180, 0, 114, 162, 0, 24, 42, 27, 182, 0, 164, 154, 0, 10, 42, 27]
abbrev dktX12_choose_0 : List UInt8 := dkwX12_choose_0 ++ dktX12_choose_1
theorem dksX12_choose_0 : cX12_choose.data.toList.drop 0 = dktX12_choose_0 := by decide +kernel
theorem dksX12_choose_1 : cX12_choose.data.toList.drop 24 = dktX12_choose_1 := dk_seg dksX12_choose_0 24 rfl rfl
theorem dX12_choose_0 : decode cX12_choose 0 = .ok (.aload_n 0, 1) := dk_42 (dk_at dksX12_choose_0 0 rfl rfl)
theorem dX12_choose_1 : decode cX12_choose 1 = .ok (.invokevirtual 161, 3) := dk_182 0 161 (dk_at dksX12_choose_0 1 rfl rfl)
theorem dX12_choose_4 : decode cX12_choose 4 = .ok (.iconst 0, 1) := dk_3 (dk_at dksX12_choose_0 4 rfl rfl)
theorem dX12_choose_5 : decode cX12_choose 5 = .ok (.istore_n 1, 1) := dk_60 (dk_at dksX12_choose_0 5 rfl rfl)
theorem dX12_choose_6 : decode cX12_choose 6 = .ok (.iload_n 1, 1) := dk_27 (dk_at dksX12_choose_0 6 rfl rfl)
theorem dX12_choose_7 : decode cX12_choose 7 = .ok (.aload_n 0, 1) := dk_42 (dk_at dksX12_choose_0 7 rfl rfl)
theorem dX12_choose_8 : decode cX12_choose 8 = .ok (.getfield 114, 3) := dk_180 0 114 (dk_at dksX12_choose_0 8 rfl rfl)
theorem dX12_choose_11 : decode cX12_choose 11 = .ok (.if_icmp .ge 24, 3) := dk_162 0 24 (dk_at dksX12_choose_0 11 rfl rfl)
theorem dX12_choose_14 : decode cX12_choose 14 = .ok (.aload_n 0, 1) := dk_42 (dk_at dksX12_choose_0 14 rfl rfl)
theorem dX12_choose_15 : decode cX12_choose 15 = .ok (.iload_n 1, 1) := dk_27 (dk_at dksX12_choose_0 15 rfl rfl)
theorem dX12_choose_16 : decode cX12_choose 16 = .ok (.invokevirtual 164, 3) := dk_182 0 164 (dk_at dksX12_choose_0 16 rfl rfl)
theorem dX12_choose_19 : decode cX12_choose 19 = .ok (.ifCond .ne 10, 3) := dk_154 0 10 (dk_at dksX12_choose_0 19 rfl rfl)
theorem dX12_choose_22 : decode cX12_choose 22 = .ok (.aload_n 0, 1) := dk_42 (dk_at dksX12_choose_0 22 rfl rfl)
theorem dX12_choose_23 : decode cX12_choose 23 = .ok (.iload_n 1, 1) := dk_27 (dk_at dksX12_choose_0 23 rfl rfl)
theorem dX12_choose_24 : decode cX12_choose 24 = .ok (.invokevirtual 168, 3) := dk_182 0 168 (dk_at dksX12_choose_1 0 rfl rfl)
theorem dX12_choose_27 : decode cX12_choose 27 = .ok (.iconst 1, 1) := dk_4 (dk_at dksX12_choose_1 3 rfl rfl)
theorem dX12_choose_28 : decode cX12_choose 28 = .ok (.ireturn, 1) := dk_172 (dk_at dksX12_choose_1 4 rfl rfl)
theorem dX12_choose_29 : decode cX12_choose 29 = .ok (.iinc 1 1, 3) := dk_132 1 1 (dk_at dksX12_choose_1 5 rfl rfl)
theorem dX12_choose_32 : decode cX12_choose 32 = .ok (.goto (-26), 3) := dk_167 255 230 (dk_at dksX12_choose_1 8 rfl rfl)
theorem dX12_choose_35 : decode cX12_choose 35 = .ok (.iconst 0, 1) := dk_3 (dk_at dksX12_choose_1 11 rfl rfl)
theorem dX12_choose_36 : decode cX12_choose 36 = .ok (.ireturn, 1) := dk_172 (dk_at dksX12_choose_1 12 rfl rfl)
abbrev cX12_listCandidates : ByteArray := prog_9_method_9_code
def yX12_listCandidates : MethodName := ⟨RX12, "listCandidates", "()V"⟩
def dkwX12_listCandidates_5 : List UInt8 := [177]
abbrev dktX12_listCandidates_5 : List UInt8 := dkwX12_listCandidates_5 ++ []
def dkwX12_listCandidates_4 : List UInt8 := [180, 0, 89, 3, 182, 0, 138, 27, 7, 160, 0, 15, 42, 42, 180, 0, 45, 180, 0, 89, 4, 182, 0, 138]
abbrev dktX12_listCandidates_4 : List UInt8 := dkwX12_listCandidates_4 ++ dktX12_listCandidates_5
def dkwX12_listCandidates_3 : List UInt8 := [180, 0, 45, 180, 0, 89, 4, 182, 0, 138, 27, 153, 0, 20, 27, 4, 159, 0, 15, 42, 42, 180, 0, 53]
abbrev dktX12_listCandidates_3 : List UInt8 := dkwX12_listCandidates_3 ++ dktX12_listCandidates_4
def dkwX12_listCandidates_2 : List UInt8 := [182, 0, 99, 192, 0, 105, 180, 0, 142, 60, 27, 4, 159, 0, 8, 27, 6, 160, 0, 15, 42, 42]
abbrev dktX12_listCandidates_2 : List UInt8 := dkwX12_listCandidates_2 ++ dktX12_listCandidates_3
def dkwX12_listCandidates_1 : List UInt8 := [177, 42, 180, 0, 59, 5, 160, 0, 7, 3, 167, 0, 23, 42, 180, 0, 14, 180, 0, 95, 42, 180, 0, 23]
abbrev dktX12_listCandidates_1 : List UInt8 := dkwX12_listCandidates_1 ++ dktX12_listCandidates_2
def dkwX12_listCandidates_0 : List UInt8 := [42, 3, 181, 0, 114, 42, 182, 0, 85, 153, 0, 16, 42, 42, 180, 0, 45, 180, 0, 89, 4, 182, 0, 138]
abbrev dktX12_listCandidates_0 : List UInt8 := dkwX12_listCandidates_0 ++ dktX12_listCandidates_1
theorem dksX12_listCandidates_0 : cX12_listCandidates.data.toList.drop 0 = dktX12_listCandidates_0 := by decide +kernel
theorem dksX12_listCandidates_1 : cX12_listCandidates.data.toList.drop 24 = dktX12_listCandidates_1 := dk_seg dksX12_listCandidates_0 24 rfl rfl
theorem dksX12_listCandidates_2 : cX12_listCandidates.data.toList.drop 48 = dktX12_listCandidates_2 := dk_seg dksX12_listCandidates_1 24 rfl rfl
theorem dksX12_listCandidates_3 : cX12_listCandidates.data.toList.drop 70 = dktX12_listCandidates_3 := dk_seg dksX12_listCandidates_2 22 rfl rfl
theorem dksX12_listCandidates_4 : cX12_listCandidates.data.toList.drop 94 = dktX12_listCandidates_4 := dk_seg dksX12_listCandidates_3 24 rfl rfl
theorem dksX12_listCandidates_5 : cX12_listCandidates.data.toList.drop 118 = dktX12_listCandidates_5 := dk_seg dksX12_listCandidates_4 24 rfl rfl
theorem dX12_listCandidates_0 : decode cX12_listCandidates 0 = .ok (.aload_n 0, 1) := dk_42 (dk_at dksX12_listCandidates_0 0 rfl rfl)
theorem dX12_listCandidates_1 : decode cX12_listCandidates 1 = .ok (.iconst 0, 1) := dk_3 (dk_at dksX12_listCandidates_0 1 rfl rfl)
theorem dX12_listCandidates_2 : decode cX12_listCandidates 2 = .ok (.putfield 114, 3) := dk_181 0 114 (dk_at dksX12_listCandidates_0 2 rfl rfl)
theorem dX12_listCandidates_5 : decode cX12_listCandidates 5 = .ok (.aload_n 0, 1) := dk_42 (dk_at dksX12_listCandidates_0 5 rfl rfl)
theorem dX12_listCandidates_6 : decode cX12_listCandidates 6 = .ok (.invokevirtual 85, 3) := dk_182 0 85 (dk_at dksX12_listCandidates_0 6 rfl rfl)
theorem dX12_listCandidates_9 : decode cX12_listCandidates 9 = .ok (.ifCond .eq 16, 3) := dk_153 0 16 (dk_at dksX12_listCandidates_0 9 rfl rfl)
theorem dX12_listCandidates_12 : decode cX12_listCandidates 12 = .ok (.aload_n 0, 1) := dk_42 (dk_at dksX12_listCandidates_0 12 rfl rfl)
theorem dX12_listCandidates_13 : decode cX12_listCandidates 13 = .ok (.aload_n 0, 1) := dk_42 (dk_at dksX12_listCandidates_0 13 rfl rfl)
theorem dX12_listCandidates_14 : decode cX12_listCandidates 14 = .ok (.getfield 45, 3) := dk_180 0 45 (dk_at dksX12_listCandidates_0 14 rfl rfl)
theorem dX12_listCandidates_17 : decode cX12_listCandidates 17 = .ok (.getfield 89, 3) := dk_180 0 89 (dk_at dksX12_listCandidates_0 17 rfl rfl)
theorem dX12_listCandidates_20 : decode cX12_listCandidates 20 = .ok (.iconst 1, 1) := dk_4 (dk_at dksX12_listCandidates_0 20 rfl rfl)
theorem dX12_listCandidates_21 : decode cX12_listCandidates 21 = .ok (.invokevirtual 138, 3) := dk_182 0 138 (dk_at dksX12_listCandidates_0 21 rfl rfl)
theorem dX12_listCandidates_24 : decode cX12_listCandidates 24 = .ok (.return_, 1) := dk_177 (dk_at dksX12_listCandidates_1 0 rfl rfl)
theorem dX12_listCandidates_25 : decode cX12_listCandidates 25 = .ok (.aload_n 0, 1) := dk_42 (dk_at dksX12_listCandidates_1 1 rfl rfl)
theorem dX12_listCandidates_26 : decode cX12_listCandidates 26 = .ok (.getfield 59, 3) := dk_180 0 59 (dk_at dksX12_listCandidates_1 2 rfl rfl)
theorem dX12_listCandidates_29 : decode cX12_listCandidates 29 = .ok (.iconst 2, 1) := dk_5 (dk_at dksX12_listCandidates_1 5 rfl rfl)
theorem dX12_listCandidates_30 : decode cX12_listCandidates 30 = .ok (.if_icmp .ne 7, 3) := dk_160 0 7 (dk_at dksX12_listCandidates_1 6 rfl rfl)
theorem dX12_listCandidates_33 : decode cX12_listCandidates 33 = .ok (.iconst 0, 1) := dk_3 (dk_at dksX12_listCandidates_1 9 rfl rfl)
theorem dX12_listCandidates_34 : decode cX12_listCandidates 34 = .ok (.goto 23, 3) := dk_167 0 23 (dk_at dksX12_listCandidates_1 10 rfl rfl)
theorem dX12_listCandidates_37 : decode cX12_listCandidates 37 = .ok (.aload_n 0, 1) := dk_42 (dk_at dksX12_listCandidates_1 13 rfl rfl)
theorem dX12_listCandidates_38 : decode cX12_listCandidates 38 = .ok (.getfield 14, 3) := dk_180 0 14 (dk_at dksX12_listCandidates_1 14 rfl rfl)
theorem dX12_listCandidates_41 : decode cX12_listCandidates 41 = .ok (.getfield 95, 3) := dk_180 0 95 (dk_at dksX12_listCandidates_1 17 rfl rfl)
theorem dX12_listCandidates_44 : decode cX12_listCandidates 44 = .ok (.aload_n 0, 1) := dk_42 (dk_at dksX12_listCandidates_1 20 rfl rfl)
theorem dX12_listCandidates_45 : decode cX12_listCandidates 45 = .ok (.getfield 23, 3) := dk_180 0 23 (dk_at dksX12_listCandidates_1 21 rfl rfl)
theorem dX12_listCandidates_48 : decode cX12_listCandidates 48 = .ok (.invokevirtual 99, 3) := dk_182 0 99 (dk_at dksX12_listCandidates_2 0 rfl rfl)
theorem dX12_listCandidates_51 : decode cX12_listCandidates 51 = .ok (.checkcast 105, 3) := dk_192 0 105 (dk_at dksX12_listCandidates_2 3 rfl rfl)
theorem dX12_listCandidates_54 : decode cX12_listCandidates 54 = .ok (.getfield 142, 3) := dk_180 0 142 (dk_at dksX12_listCandidates_2 6 rfl rfl)
theorem dX12_listCandidates_57 : decode cX12_listCandidates 57 = .ok (.istore_n 1, 1) := dk_60 (dk_at dksX12_listCandidates_2 9 rfl rfl)
theorem dX12_listCandidates_58 : decode cX12_listCandidates 58 = .ok (.iload_n 1, 1) := dk_27 (dk_at dksX12_listCandidates_2 10 rfl rfl)
theorem dX12_listCandidates_59 : decode cX12_listCandidates 59 = .ok (.iconst 1, 1) := dk_4 (dk_at dksX12_listCandidates_2 11 rfl rfl)
theorem dX12_listCandidates_60 : decode cX12_listCandidates 60 = .ok (.if_icmp .eq 8, 3) := dk_159 0 8 (dk_at dksX12_listCandidates_2 12 rfl rfl)
theorem dX12_listCandidates_63 : decode cX12_listCandidates 63 = .ok (.iload_n 1, 1) := dk_27 (dk_at dksX12_listCandidates_2 15 rfl rfl)
theorem dX12_listCandidates_64 : decode cX12_listCandidates 64 = .ok (.iconst 3, 1) := dk_6 (dk_at dksX12_listCandidates_2 16 rfl rfl)
theorem dX12_listCandidates_65 : decode cX12_listCandidates 65 = .ok (.if_icmp .ne 15, 3) := dk_160 0 15 (dk_at dksX12_listCandidates_2 17 rfl rfl)
theorem dX12_listCandidates_68 : decode cX12_listCandidates 68 = .ok (.aload_n 0, 1) := dk_42 (dk_at dksX12_listCandidates_2 20 rfl rfl)
theorem dX12_listCandidates_69 : decode cX12_listCandidates 69 = .ok (.aload_n 0, 1) := dk_42 (dk_at dksX12_listCandidates_2 21 rfl rfl)
theorem dX12_listCandidates_70 : decode cX12_listCandidates 70 = .ok (.getfield 45, 3) := dk_180 0 45 (dk_at dksX12_listCandidates_3 0 rfl rfl)
theorem dX12_listCandidates_73 : decode cX12_listCandidates 73 = .ok (.getfield 89, 3) := dk_180 0 89 (dk_at dksX12_listCandidates_3 3 rfl rfl)
theorem dX12_listCandidates_76 : decode cX12_listCandidates 76 = .ok (.iconst 1, 1) := dk_4 (dk_at dksX12_listCandidates_3 6 rfl rfl)
theorem dX12_listCandidates_77 : decode cX12_listCandidates 77 = .ok (.invokevirtual 138, 3) := dk_182 0 138 (dk_at dksX12_listCandidates_3 7 rfl rfl)
theorem dX12_listCandidates_80 : decode cX12_listCandidates 80 = .ok (.iload_n 1, 1) := dk_27 (dk_at dksX12_listCandidates_3 10 rfl rfl)
theorem dX12_listCandidates_81 : decode cX12_listCandidates 81 = .ok (.ifCond .eq 20, 3) := dk_153 0 20 (dk_at dksX12_listCandidates_3 11 rfl rfl)
theorem dX12_listCandidates_84 : decode cX12_listCandidates 84 = .ok (.iload_n 1, 1) := dk_27 (dk_at dksX12_listCandidates_3 14 rfl rfl)
theorem dX12_listCandidates_85 : decode cX12_listCandidates 85 = .ok (.iconst 1, 1) := dk_4 (dk_at dksX12_listCandidates_3 15 rfl rfl)
theorem dX12_listCandidates_86 : decode cX12_listCandidates 86 = .ok (.if_icmp .eq 15, 3) := dk_159 0 15 (dk_at dksX12_listCandidates_3 16 rfl rfl)
theorem dX12_listCandidates_89 : decode cX12_listCandidates 89 = .ok (.aload_n 0, 1) := dk_42 (dk_at dksX12_listCandidates_3 19 rfl rfl)
theorem dX12_listCandidates_90 : decode cX12_listCandidates 90 = .ok (.aload_n 0, 1) := dk_42 (dk_at dksX12_listCandidates_3 20 rfl rfl)
theorem dX12_listCandidates_91 : decode cX12_listCandidates 91 = .ok (.getfield 53, 3) := dk_180 0 53 (dk_at dksX12_listCandidates_3 21 rfl rfl)
theorem dX12_listCandidates_94 : decode cX12_listCandidates 94 = .ok (.getfield 89, 3) := dk_180 0 89 (dk_at dksX12_listCandidates_4 0 rfl rfl)
theorem dX12_listCandidates_97 : decode cX12_listCandidates 97 = .ok (.iconst 0, 1) := dk_3 (dk_at dksX12_listCandidates_4 3 rfl rfl)
theorem dX12_listCandidates_98 : decode cX12_listCandidates 98 = .ok (.invokevirtual 138, 3) := dk_182 0 138 (dk_at dksX12_listCandidates_4 4 rfl rfl)
theorem dX12_listCandidates_101 : decode cX12_listCandidates 101 = .ok (.iload_n 1, 1) := dk_27 (dk_at dksX12_listCandidates_4 7 rfl rfl)
theorem dX12_listCandidates_102 : decode cX12_listCandidates 102 = .ok (.iconst 4, 1) := dk_7 (dk_at dksX12_listCandidates_4 8 rfl rfl)
theorem dX12_listCandidates_103 : decode cX12_listCandidates 103 = .ok (.if_icmp .ne 15, 3) := dk_160 0 15 (dk_at dksX12_listCandidates_4 9 rfl rfl)
theorem dX12_listCandidates_106 : decode cX12_listCandidates 106 = .ok (.aload_n 0, 1) := dk_42 (dk_at dksX12_listCandidates_4 12 rfl rfl)
theorem dX12_listCandidates_107 : decode cX12_listCandidates 107 = .ok (.aload_n 0, 1) := dk_42 (dk_at dksX12_listCandidates_4 13 rfl rfl)
theorem dX12_listCandidates_108 : decode cX12_listCandidates 108 = .ok (.getfield 45, 3) := dk_180 0 45 (dk_at dksX12_listCandidates_4 14 rfl rfl)
theorem dX12_listCandidates_111 : decode cX12_listCandidates 111 = .ok (.getfield 89, 3) := dk_180 0 89 (dk_at dksX12_listCandidates_4 17 rfl rfl)
theorem dX12_listCandidates_114 : decode cX12_listCandidates 114 = .ok (.iconst 1, 1) := dk_4 (dk_at dksX12_listCandidates_4 20 rfl rfl)
theorem dX12_listCandidates_115 : decode cX12_listCandidates 115 = .ok (.invokevirtual 138, 3) := dk_182 0 138 (dk_at dksX12_listCandidates_4 21 rfl rfl)
theorem dX12_listCandidates_118 : decode cX12_listCandidates 118 = .ok (.return_, 1) := dk_177 (dk_at dksX12_listCandidates_5 0 rfl rfl)
abbrev cX12_list : ByteArray := prog_9_method_8_code
def yX12_list : MethodName := ⟨RX12, "list", "(LAnimationController$State;Z)V"⟩
def dkwX12_list_9 : List UInt8 := [167, 255, 90, 177]
abbrev dktX12_list_9 : List UInt8 := dkwX12_list_9 ++ []
def dkwX12_list_8 : List UInt8 := [180, 0, 114, 28, 84, 42, 89, 180, 0, 114, 4, 96, 181, 0, 114, 132, 5, 1, 167, 255, 104, 132, 4, 255]
abbrev dktX12_list_8 : List UInt8 := dkwX12_list_8 ++ dktX12_list_9
def dkwX12_list_7 : List UInt8 := [21, 5, 182, 0, 134, 154, 0, 34, 42, 180, 0, 38, 42, 180, 0, 114, 21, 5, 79, 42, 180, 0, 41, 42]
abbrev dktX12_list_7 : List UInt8 := dkwX12_list_7 ++ dktX12_list_8
def dkwX12_list_6 : List UInt8 := [21, 5, 42, 180, 0, 23, 159, 0, 56, 29, 153, 0, 12, 21, 5, 42, 180, 0, 23, 163, 0, 43, 42]
abbrev dktX12_list_6 : List UInt8 := dkwX12_list_6 ++ dktX12_list_7
def dkwX12_list_5 : List UInt8 := [167, 0, 17, 25, 6, 180, 0, 124, 43, 166, 0, 7, 4, 167, 0, 4, 3, 54, 7, 21, 7, 153, 0, 65]
abbrev dktX12_list_5 : List UInt8 := dkwX12_list_5 ++ dktX12_list_6
def dkwX12_list_4 : List UInt8 := [180, 0, 124, 199, 0, 19, 25, 6, 180, 0, 127, 42, 182, 0, 130, 165, 0, 7, 4, 167, 0, 21, 3]
abbrev dktX12_list_4 : List UInt8 := dkwX12_list_4 ++ dktX12_list_5
def dkwX12_list_3 : List UInt8 := [180, 0, 14, 180, 0, 95, 21, 5, 182, 0, 99, 192, 0, 105, 58, 6, 21, 4, 4, 160, 0, 31, 25, 6]
abbrev dktX12_list_3 : List UInt8 := dkwX12_list_3 ++ dktX12_list_4
def dkwX12_list_2 : List UInt8 := [155, 0, 167, 3, 54, 5, 21, 5, 42, 180, 0, 14, 180, 0, 95, 182, 0, 120, 162, 0, 143, 42]
abbrev dktX12_list_2 : List UInt8 := dkwX12_list_2 ++ dktX12_list_3
def dkwX12_list_1 : List UInt8 := [182, 0, 99, 192, 0, 105, 180, 0, 117, 153, 0, 7, 4, 167, 0, 4, 3, 62, 4, 54, 4, 21, 4]
abbrev dktX12_list_1 : List UInt8 := dkwX12_list_1 ++ dktX12_list_2
def dkwX12_list_0 : List UInt8 := [28, 153, 0, 37, 42, 182, 0, 85, 154, 0, 30, 42, 180, 0, 14, 180, 0, 95, 42, 180, 0, 23]
abbrev dktX12_list_0 : List UInt8 := dkwX12_list_0 ++ dktX12_list_1
theorem dksX12_list_0 : cX12_list.data.toList.drop 0 = dktX12_list_0 := by decide +kernel
theorem dksX12_list_1 : cX12_list.data.toList.drop 22 = dktX12_list_1 := dk_seg dksX12_list_0 22 rfl rfl
theorem dksX12_list_2 : cX12_list.data.toList.drop 45 = dktX12_list_2 := dk_seg dksX12_list_1 23 rfl rfl
theorem dksX12_list_3 : cX12_list.data.toList.drop 67 = dktX12_list_3 := dk_seg dksX12_list_2 22 rfl rfl
theorem dksX12_list_4 : cX12_list.data.toList.drop 91 = dktX12_list_4 := dk_seg dksX12_list_3 24 rfl rfl
theorem dksX12_list_5 : cX12_list.data.toList.drop 114 = dktX12_list_5 := dk_seg dksX12_list_4 23 rfl rfl
theorem dksX12_list_6 : cX12_list.data.toList.drop 138 = dktX12_list_6 := dk_seg dksX12_list_5 24 rfl rfl
theorem dksX12_list_7 : cX12_list.data.toList.drop 161 = dktX12_list_7 := dk_seg dksX12_list_6 23 rfl rfl
theorem dksX12_list_8 : cX12_list.data.toList.drop 185 = dktX12_list_8 := dk_seg dksX12_list_7 24 rfl rfl
theorem dksX12_list_9 : cX12_list.data.toList.drop 209 = dktX12_list_9 := dk_seg dksX12_list_8 24 rfl rfl
theorem dX12_list_0 : decode cX12_list 0 = .ok (.iload_n 2, 1) := dk_28 (dk_at dksX12_list_0 0 rfl rfl)
theorem dX12_list_1 : decode cX12_list 1 = .ok (.ifCond .eq 37, 3) := dk_153 0 37 (dk_at dksX12_list_0 1 rfl rfl)
theorem dX12_list_4 : decode cX12_list 4 = .ok (.aload_n 0, 1) := dk_42 (dk_at dksX12_list_0 4 rfl rfl)
theorem dX12_list_5 : decode cX12_list 5 = .ok (.invokevirtual 85, 3) := dk_182 0 85 (dk_at dksX12_list_0 5 rfl rfl)
theorem dX12_list_8 : decode cX12_list 8 = .ok (.ifCond .ne 30, 3) := dk_154 0 30 (dk_at dksX12_list_0 8 rfl rfl)
theorem dX12_list_11 : decode cX12_list 11 = .ok (.aload_n 0, 1) := dk_42 (dk_at dksX12_list_0 11 rfl rfl)
theorem dX12_list_12 : decode cX12_list 12 = .ok (.getfield 14, 3) := dk_180 0 14 (dk_at dksX12_list_0 12 rfl rfl)
theorem dX12_list_15 : decode cX12_list 15 = .ok (.getfield 95, 3) := dk_180 0 95 (dk_at dksX12_list_0 15 rfl rfl)
theorem dX12_list_18 : decode cX12_list 18 = .ok (.aload_n 0, 1) := dk_42 (dk_at dksX12_list_0 18 rfl rfl)
theorem dX12_list_19 : decode cX12_list 19 = .ok (.getfield 23, 3) := dk_180 0 23 (dk_at dksX12_list_0 19 rfl rfl)
theorem dX12_list_22 : decode cX12_list 22 = .ok (.invokevirtual 99, 3) := dk_182 0 99 (dk_at dksX12_list_1 0 rfl rfl)
theorem dX12_list_25 : decode cX12_list 25 = .ok (.checkcast 105, 3) := dk_192 0 105 (dk_at dksX12_list_1 3 rfl rfl)
theorem dX12_list_28 : decode cX12_list 28 = .ok (.getfield 117, 3) := dk_180 0 117 (dk_at dksX12_list_1 6 rfl rfl)
theorem dX12_list_31 : decode cX12_list 31 = .ok (.ifCond .eq 7, 3) := dk_153 0 7 (dk_at dksX12_list_1 9 rfl rfl)
theorem dX12_list_34 : decode cX12_list 34 = .ok (.iconst 1, 1) := dk_4 (dk_at dksX12_list_1 12 rfl rfl)
theorem dX12_list_35 : decode cX12_list 35 = .ok (.goto 4, 3) := dk_167 0 4 (dk_at dksX12_list_1 13 rfl rfl)
theorem dX12_list_38 : decode cX12_list 38 = .ok (.iconst 0, 1) := dk_3 (dk_at dksX12_list_1 16 rfl rfl)
theorem dX12_list_39 : decode cX12_list 39 = .ok (.istore_n 3, 1) := dk_62 (dk_at dksX12_list_1 17 rfl rfl)
theorem dX12_list_40 : decode cX12_list 40 = .ok (.iconst 1, 1) := dk_4 (dk_at dksX12_list_1 18 rfl rfl)
theorem dX12_list_41 : decode cX12_list 41 = .ok (.istore 4, 2) := dk_54 4 (dk_at dksX12_list_1 19 rfl rfl)
theorem dX12_list_43 : decode cX12_list 43 = .ok (.iload 4, 2) := dk_21 4 (dk_at dksX12_list_1 21 rfl rfl)
theorem dX12_list_45 : decode cX12_list 45 = .ok (.ifCond .lt 167, 3) := dk_155 0 167 (dk_at dksX12_list_2 0 rfl rfl)
theorem dX12_list_48 : decode cX12_list 48 = .ok (.iconst 0, 1) := dk_3 (dk_at dksX12_list_2 3 rfl rfl)
theorem dX12_list_49 : decode cX12_list 49 = .ok (.istore 5, 2) := dk_54 5 (dk_at dksX12_list_2 4 rfl rfl)
theorem dX12_list_51 : decode cX12_list 51 = .ok (.iload 5, 2) := dk_21 5 (dk_at dksX12_list_2 6 rfl rfl)
theorem dX12_list_53 : decode cX12_list 53 = .ok (.aload_n 0, 1) := dk_42 (dk_at dksX12_list_2 8 rfl rfl)
theorem dX12_list_54 : decode cX12_list 54 = .ok (.getfield 14, 3) := dk_180 0 14 (dk_at dksX12_list_2 9 rfl rfl)
theorem dX12_list_57 : decode cX12_list 57 = .ok (.getfield 95, 3) := dk_180 0 95 (dk_at dksX12_list_2 12 rfl rfl)
theorem dX12_list_60 : decode cX12_list 60 = .ok (.invokevirtual 120, 3) := dk_182 0 120 (dk_at dksX12_list_2 15 rfl rfl)
theorem dX12_list_63 : decode cX12_list 63 = .ok (.if_icmp .ge 143, 3) := dk_162 0 143 (dk_at dksX12_list_2 18 rfl rfl)
theorem dX12_list_66 : decode cX12_list 66 = .ok (.aload_n 0, 1) := dk_42 (dk_at dksX12_list_2 21 rfl rfl)
theorem dX12_list_67 : decode cX12_list 67 = .ok (.getfield 14, 3) := dk_180 0 14 (dk_at dksX12_list_3 0 rfl rfl)
theorem dX12_list_70 : decode cX12_list 70 = .ok (.getfield 95, 3) := dk_180 0 95 (dk_at dksX12_list_3 3 rfl rfl)
theorem dX12_list_73 : decode cX12_list 73 = .ok (.iload 5, 2) := dk_21 5 (dk_at dksX12_list_3 6 rfl rfl)
theorem dX12_list_75 : decode cX12_list 75 = .ok (.invokevirtual 99, 3) := dk_182 0 99 (dk_at dksX12_list_3 8 rfl rfl)
theorem dX12_list_78 : decode cX12_list 78 = .ok (.checkcast 105, 3) := dk_192 0 105 (dk_at dksX12_list_3 11 rfl rfl)
theorem dX12_list_81 : decode cX12_list 81 = .ok (.astore 6, 2) := dk_58 6 (dk_at dksX12_list_3 14 rfl rfl)
theorem dX12_list_83 : decode cX12_list 83 = .ok (.iload 4, 2) := dk_21 4 (dk_at dksX12_list_3 16 rfl rfl)
theorem dX12_list_85 : decode cX12_list 85 = .ok (.iconst 1, 1) := dk_4 (dk_at dksX12_list_3 18 rfl rfl)
theorem dX12_list_86 : decode cX12_list 86 = .ok (.if_icmp .ne 31, 3) := dk_160 0 31 (dk_at dksX12_list_3 19 rfl rfl)
theorem dX12_list_89 : decode cX12_list 89 = .ok (.aload 6, 2) := dk_25 6 (dk_at dksX12_list_3 22 rfl rfl)
theorem dX12_list_91 : decode cX12_list 91 = .ok (.getfield 124, 3) := dk_180 0 124 (dk_at dksX12_list_4 0 rfl rfl)
theorem dX12_list_94 : decode cX12_list 94 = .ok (.ifnonnull 19, 3) := dk_199 0 19 (dk_at dksX12_list_4 3 rfl rfl)
theorem dX12_list_97 : decode cX12_list 97 = .ok (.aload 6, 2) := dk_25 6 (dk_at dksX12_list_4 6 rfl rfl)
theorem dX12_list_99 : decode cX12_list 99 = .ok (.getfield 127, 3) := dk_180 0 127 (dk_at dksX12_list_4 8 rfl rfl)
theorem dX12_list_102 : decode cX12_list 102 = .ok (.aload_n 0, 1) := dk_42 (dk_at dksX12_list_4 11 rfl rfl)
theorem dX12_list_103 : decode cX12_list 103 = .ok (.invokevirtual 130, 3) := dk_182 0 130 (dk_at dksX12_list_4 12 rfl rfl)
theorem dX12_list_106 : decode cX12_list 106 = .ok (.if_acmp .eq 7, 3) := dk_165 0 7 (dk_at dksX12_list_4 15 rfl rfl)
theorem dX12_list_109 : decode cX12_list 109 = .ok (.iconst 1, 1) := dk_4 (dk_at dksX12_list_4 18 rfl rfl)
theorem dX12_list_110 : decode cX12_list 110 = .ok (.goto 21, 3) := dk_167 0 21 (dk_at dksX12_list_4 19 rfl rfl)
theorem dX12_list_113 : decode cX12_list 113 = .ok (.iconst 0, 1) := dk_3 (dk_at dksX12_list_4 22 rfl rfl)
theorem dX12_list_114 : decode cX12_list 114 = .ok (.goto 17, 3) := dk_167 0 17 (dk_at dksX12_list_5 0 rfl rfl)
theorem dX12_list_117 : decode cX12_list 117 = .ok (.aload 6, 2) := dk_25 6 (dk_at dksX12_list_5 3 rfl rfl)
theorem dX12_list_119 : decode cX12_list 119 = .ok (.getfield 124, 3) := dk_180 0 124 (dk_at dksX12_list_5 5 rfl rfl)
theorem dX12_list_122 : decode cX12_list 122 = .ok (.aload_n 1, 1) := dk_43 (dk_at dksX12_list_5 8 rfl rfl)
theorem dX12_list_123 : decode cX12_list 123 = .ok (.if_acmp .ne 7, 3) := dk_166 0 7 (dk_at dksX12_list_5 9 rfl rfl)
theorem dX12_list_126 : decode cX12_list 126 = .ok (.iconst 1, 1) := dk_4 (dk_at dksX12_list_5 12 rfl rfl)
theorem dX12_list_127 : decode cX12_list 127 = .ok (.goto 4, 3) := dk_167 0 4 (dk_at dksX12_list_5 13 rfl rfl)
theorem dX12_list_130 : decode cX12_list 130 = .ok (.iconst 0, 1) := dk_3 (dk_at dksX12_list_5 16 rfl rfl)
theorem dX12_list_131 : decode cX12_list 131 = .ok (.istore 7, 2) := dk_54 7 (dk_at dksX12_list_5 17 rfl rfl)
theorem dX12_list_133 : decode cX12_list 133 = .ok (.iload 7, 2) := dk_21 7 (dk_at dksX12_list_5 19 rfl rfl)
theorem dX12_list_135 : decode cX12_list 135 = .ok (.ifCond .eq 65, 3) := dk_153 0 65 (dk_at dksX12_list_5 21 rfl rfl)
theorem dX12_list_138 : decode cX12_list 138 = .ok (.iload 5, 2) := dk_21 5 (dk_at dksX12_list_6 0 rfl rfl)
theorem dX12_list_140 : decode cX12_list 140 = .ok (.aload_n 0, 1) := dk_42 (dk_at dksX12_list_6 2 rfl rfl)
theorem dX12_list_141 : decode cX12_list 141 = .ok (.getfield 23, 3) := dk_180 0 23 (dk_at dksX12_list_6 3 rfl rfl)
theorem dX12_list_144 : decode cX12_list 144 = .ok (.if_icmp .eq 56, 3) := dk_159 0 56 (dk_at dksX12_list_6 6 rfl rfl)
theorem dX12_list_147 : decode cX12_list 147 = .ok (.iload_n 3, 1) := dk_29 (dk_at dksX12_list_6 9 rfl rfl)
theorem dX12_list_148 : decode cX12_list 148 = .ok (.ifCond .eq 12, 3) := dk_153 0 12 (dk_at dksX12_list_6 10 rfl rfl)
theorem dX12_list_151 : decode cX12_list 151 = .ok (.iload 5, 2) := dk_21 5 (dk_at dksX12_list_6 13 rfl rfl)
theorem dX12_list_153 : decode cX12_list 153 = .ok (.aload_n 0, 1) := dk_42 (dk_at dksX12_list_6 15 rfl rfl)
theorem dX12_list_154 : decode cX12_list 154 = .ok (.getfield 23, 3) := dk_180 0 23 (dk_at dksX12_list_6 16 rfl rfl)
theorem dX12_list_157 : decode cX12_list 157 = .ok (.if_icmp .gt 43, 3) := dk_163 0 43 (dk_at dksX12_list_6 19 rfl rfl)
theorem dX12_list_160 : decode cX12_list 160 = .ok (.aload_n 0, 1) := dk_42 (dk_at dksX12_list_6 22 rfl rfl)
theorem dX12_list_161 : decode cX12_list 161 = .ok (.iload 5, 2) := dk_21 5 (dk_at dksX12_list_7 0 rfl rfl)
theorem dX12_list_163 : decode cX12_list 163 = .ok (.invokevirtual 134, 3) := dk_182 0 134 (dk_at dksX12_list_7 2 rfl rfl)
theorem dX12_list_166 : decode cX12_list 166 = .ok (.ifCond .ne 34, 3) := dk_154 0 34 (dk_at dksX12_list_7 5 rfl rfl)
theorem dX12_list_169 : decode cX12_list 169 = .ok (.aload_n 0, 1) := dk_42 (dk_at dksX12_list_7 8 rfl rfl)
theorem dX12_list_170 : decode cX12_list 170 = .ok (.getfield 38, 3) := dk_180 0 38 (dk_at dksX12_list_7 9 rfl rfl)
theorem dX12_list_173 : decode cX12_list 173 = .ok (.aload_n 0, 1) := dk_42 (dk_at dksX12_list_7 12 rfl rfl)
theorem dX12_list_174 : decode cX12_list 174 = .ok (.getfield 114, 3) := dk_180 0 114 (dk_at dksX12_list_7 13 rfl rfl)
theorem dX12_list_177 : decode cX12_list 177 = .ok (.iload 5, 2) := dk_21 5 (dk_at dksX12_list_7 16 rfl rfl)
theorem dX12_list_179 : decode cX12_list 179 = .ok (.iastore, 1) := dk_79 (dk_at dksX12_list_7 18 rfl rfl)
theorem dX12_list_180 : decode cX12_list 180 = .ok (.aload_n 0, 1) := dk_42 (dk_at dksX12_list_7 19 rfl rfl)
theorem dX12_list_181 : decode cX12_list 181 = .ok (.getfield 41, 3) := dk_180 0 41 (dk_at dksX12_list_7 20 rfl rfl)
theorem dX12_list_184 : decode cX12_list 184 = .ok (.aload_n 0, 1) := dk_42 (dk_at dksX12_list_7 23 rfl rfl)
theorem dX12_list_185 : decode cX12_list 185 = .ok (.getfield 114, 3) := dk_180 0 114 (dk_at dksX12_list_8 0 rfl rfl)
theorem dX12_list_188 : decode cX12_list 188 = .ok (.iload_n 2, 1) := dk_28 (dk_at dksX12_list_8 3 rfl rfl)
theorem dX12_list_189 : decode cX12_list 189 = .ok (.bastore, 1) := dk_84 (dk_at dksX12_list_8 4 rfl rfl)
theorem dX12_list_190 : decode cX12_list 190 = .ok (.aload_n 0, 1) := dk_42 (dk_at dksX12_list_8 5 rfl rfl)
theorem dX12_list_191 : decode cX12_list 191 = .ok (.dup, 1) := dk_89 (dk_at dksX12_list_8 6 rfl rfl)
theorem dX12_list_192 : decode cX12_list 192 = .ok (.getfield 114, 3) := dk_180 0 114 (dk_at dksX12_list_8 7 rfl rfl)
theorem dX12_list_195 : decode cX12_list 195 = .ok (.iconst 1, 1) := dk_4 (dk_at dksX12_list_8 10 rfl rfl)
theorem dX12_list_196 : decode cX12_list 196 = .ok (.iadd, 1) := dk_96 (dk_at dksX12_list_8 11 rfl rfl)
theorem dX12_list_197 : decode cX12_list 197 = .ok (.putfield 114, 3) := dk_181 0 114 (dk_at dksX12_list_8 12 rfl rfl)
theorem dX12_list_200 : decode cX12_list 200 = .ok (.iinc 5 1, 3) := dk_132 5 1 (dk_at dksX12_list_8 15 rfl rfl)
theorem dX12_list_203 : decode cX12_list 203 = .ok (.goto (-152), 3) := dk_167 255 104 (dk_at dksX12_list_8 18 rfl rfl)
theorem dX12_list_206 : decode cX12_list 206 = .ok (.iinc 4 (-1), 3) := dk_132 4 255 (dk_at dksX12_list_8 21 rfl rfl)
theorem dX12_list_209 : decode cX12_list 209 = .ok (.goto (-166), 3) := dk_167 255 90 (dk_at dksX12_list_9 0 rfl rfl)
theorem dX12_list_212 : decode cX12_list 212 = .ok (.return_, 1) := dk_177 (dk_at dksX12_list_9 3 rfl rfl)
abbrev cX12_destination : ByteArray := prog_9_method_5_code
def yX12_destination : MethodName := ⟨RX12, "destination", "()LAnimationController$State;"⟩
def dkwX12_destination_1 : List UInt8 := [176]
abbrev dktX12_destination_1 : List UInt8 := dkwX12_destination_1 ++ []
def dkwX12_destination_0 : List UInt8 := [42, 182, 0, 85, 153, 0, 13, 42, 180, 0, 45, 180, 0, 89, 167, 0, 10, 42, 180, 0, 53, 180, 0, 89]
abbrev dktX12_destination_0 : List UInt8 := dkwX12_destination_0 ++ dktX12_destination_1
theorem dksX12_destination_0 : cX12_destination.data.toList.drop 0 = dktX12_destination_0 := by decide +kernel
theorem dksX12_destination_1 : cX12_destination.data.toList.drop 24 = dktX12_destination_1 := dk_seg dksX12_destination_0 24 rfl rfl
theorem dX12_destination_0 : decode cX12_destination 0 = .ok (.aload_n 0, 1) := dk_42 (dk_at dksX12_destination_0 0 rfl rfl)
theorem dX12_destination_1 : decode cX12_destination 1 = .ok (.invokevirtual 85, 3) := dk_182 0 85 (dk_at dksX12_destination_0 1 rfl rfl)
theorem dX12_destination_4 : decode cX12_destination 4 = .ok (.ifCond .eq 13, 3) := dk_153 0 13 (dk_at dksX12_destination_0 4 rfl rfl)
theorem dX12_destination_7 : decode cX12_destination 7 = .ok (.aload_n 0, 1) := dk_42 (dk_at dksX12_destination_0 7 rfl rfl)
theorem dX12_destination_8 : decode cX12_destination 8 = .ok (.getfield 45, 3) := dk_180 0 45 (dk_at dksX12_destination_0 8 rfl rfl)
theorem dX12_destination_11 : decode cX12_destination 11 = .ok (.getfield 89, 3) := dk_180 0 89 (dk_at dksX12_destination_0 11 rfl rfl)
theorem dX12_destination_14 : decode cX12_destination 14 = .ok (.goto 10, 3) := dk_167 0 10 (dk_at dksX12_destination_0 14 rfl rfl)
theorem dX12_destination_17 : decode cX12_destination 17 = .ok (.aload_n 0, 1) := dk_42 (dk_at dksX12_destination_0 17 rfl rfl)
theorem dX12_destination_18 : decode cX12_destination 18 = .ok (.getfield 53, 3) := dk_180 0 53 (dk_at dksX12_destination_0 18 rfl rfl)
theorem dX12_destination_21 : decode cX12_destination 21 = .ok (.getfield 89, 3) := dk_180 0 89 (dk_at dksX12_destination_0 21 rfl rfl)
theorem dX12_destination_24 : decode cX12_destination 24 = .ok (.areturn, 1) := dk_176 (dk_at dksX12_destination_1 0 rfl rfl)
abbrev cX12_isCandidate : ByteArray := prog_9_method_7_code
def yX12_isCandidate : MethodName := ⟨RX12, "isCandidate", "(I)Z"⟩
def dkwX12_isCandidate_1 : List UInt8 := [160, 0, 7, 4, 167, 0, 4, 3, 61, 132, 3, 1, 167, 255, 225, 28, 172]
abbrev dktX12_isCandidate_1 : List UInt8 := dkwX12_isCandidate_1 ++ []
def dkwX12_isCandidate_0 : List UInt8 := [3, 61, 3, 62, 29, 42, 180, 0, 114, 162, 0, 29, 28, 154, 0, 13, 42, 180, 0, 38, 29, 46, 27]
abbrev dktX12_isCandidate_0 : List UInt8 := dkwX12_isCandidate_0 ++ dktX12_isCandidate_1
theorem dksX12_isCandidate_0 : cX12_isCandidate.data.toList.drop 0 = dktX12_isCandidate_0 := by decide +kernel
theorem dksX12_isCandidate_1 : cX12_isCandidate.data.toList.drop 23 = dktX12_isCandidate_1 := dk_seg dksX12_isCandidate_0 23 rfl rfl
theorem dX12_isCandidate_0 : decode cX12_isCandidate 0 = .ok (.iconst 0, 1) := dk_3 (dk_at dksX12_isCandidate_0 0 rfl rfl)
theorem dX12_isCandidate_1 : decode cX12_isCandidate 1 = .ok (.istore_n 2, 1) := dk_61 (dk_at dksX12_isCandidate_0 1 rfl rfl)
theorem dX12_isCandidate_2 : decode cX12_isCandidate 2 = .ok (.iconst 0, 1) := dk_3 (dk_at dksX12_isCandidate_0 2 rfl rfl)
theorem dX12_isCandidate_3 : decode cX12_isCandidate 3 = .ok (.istore_n 3, 1) := dk_62 (dk_at dksX12_isCandidate_0 3 rfl rfl)
theorem dX12_isCandidate_4 : decode cX12_isCandidate 4 = .ok (.iload_n 3, 1) := dk_29 (dk_at dksX12_isCandidate_0 4 rfl rfl)
theorem dX12_isCandidate_5 : decode cX12_isCandidate 5 = .ok (.aload_n 0, 1) := dk_42 (dk_at dksX12_isCandidate_0 5 rfl rfl)
theorem dX12_isCandidate_6 : decode cX12_isCandidate 6 = .ok (.getfield 114, 3) := dk_180 0 114 (dk_at dksX12_isCandidate_0 6 rfl rfl)
theorem dX12_isCandidate_9 : decode cX12_isCandidate 9 = .ok (.if_icmp .ge 29, 3) := dk_162 0 29 (dk_at dksX12_isCandidate_0 9 rfl rfl)
theorem dX12_isCandidate_12 : decode cX12_isCandidate 12 = .ok (.iload_n 2, 1) := dk_28 (dk_at dksX12_isCandidate_0 12 rfl rfl)
theorem dX12_isCandidate_13 : decode cX12_isCandidate 13 = .ok (.ifCond .ne 13, 3) := dk_154 0 13 (dk_at dksX12_isCandidate_0 13 rfl rfl)
theorem dX12_isCandidate_16 : decode cX12_isCandidate 16 = .ok (.aload_n 0, 1) := dk_42 (dk_at dksX12_isCandidate_0 16 rfl rfl)
theorem dX12_isCandidate_17 : decode cX12_isCandidate 17 = .ok (.getfield 38, 3) := dk_180 0 38 (dk_at dksX12_isCandidate_0 17 rfl rfl)
theorem dX12_isCandidate_20 : decode cX12_isCandidate 20 = .ok (.iload_n 3, 1) := dk_29 (dk_at dksX12_isCandidate_0 20 rfl rfl)
theorem dX12_isCandidate_21 : decode cX12_isCandidate 21 = .ok (.iaload, 1) := dk_46 (dk_at dksX12_isCandidate_0 21 rfl rfl)
theorem dX12_isCandidate_22 : decode cX12_isCandidate 22 = .ok (.iload_n 1, 1) := dk_27 (dk_at dksX12_isCandidate_0 22 rfl rfl)
theorem dX12_isCandidate_23 : decode cX12_isCandidate 23 = .ok (.if_icmp .ne 7, 3) := dk_160 0 7 (dk_at dksX12_isCandidate_1 0 rfl rfl)
theorem dX12_isCandidate_26 : decode cX12_isCandidate 26 = .ok (.iconst 1, 1) := dk_4 (dk_at dksX12_isCandidate_1 3 rfl rfl)
theorem dX12_isCandidate_27 : decode cX12_isCandidate 27 = .ok (.goto 4, 3) := dk_167 0 4 (dk_at dksX12_isCandidate_1 4 rfl rfl)
theorem dX12_isCandidate_30 : decode cX12_isCandidate 30 = .ok (.iconst 0, 1) := dk_3 (dk_at dksX12_isCandidate_1 7 rfl rfl)
theorem dX12_isCandidate_31 : decode cX12_isCandidate 31 = .ok (.istore_n 2, 1) := dk_61 (dk_at dksX12_isCandidate_1 8 rfl rfl)
theorem dX12_isCandidate_32 : decode cX12_isCandidate 32 = .ok (.iinc 3 1, 3) := dk_132 3 1 (dk_at dksX12_isCandidate_1 9 rfl rfl)
theorem dX12_isCandidate_35 : decode cX12_isCandidate 35 = .ok (.goto (-31), 3) := dk_167 255 225 (dk_at dksX12_isCandidate_1 12 rfl rfl)
theorem dX12_isCandidate_38 : decode cX12_isCandidate 38 = .ok (.iload_n 2, 1) := dk_28 (dk_at dksX12_isCandidate_1 15 rfl rfl)
theorem dX12_isCandidate_39 : decode cX12_isCandidate 39 = .ok (.ireturn, 1) := dk_172 (dk_at dksX12_isCandidate_1 16 rfl rfl)
abbrev cX12_obstacle : ByteArray := prog_9_method_11_code
def yX12_obstacle : MethodName := ⟨RX12, "obstacle", "(I)I"⟩
def dkwX12_obstacle_2 : List UInt8 := [156, 0, 5, 5, 172, 44, 182, 0, 158, 62, 29, 2, 160, 0, 7, 3, 167, 0, 6, 6, 29, 96, 172]
abbrev dktX12_obstacle_2 : List UInt8 := dkwX12_obstacle_2 ++ []
def dkwX12_obstacle_1 : List UInt8 := [2, 159, 0, 26, 42, 27, 182, 0, 148, 182, 0, 152, 44, 180, 0, 145, 133, 20, 0, 156, 105, 148]
abbrev dktX12_obstacle_1 : List UInt8 := dkwX12_obstacle_1 ++ dktX12_obstacle_2
def dkwX12_obstacle_0 : List UInt8 := [42, 180, 0, 14, 180, 0, 95, 42, 180, 0, 38, 27, 46, 182, 0, 99, 192, 0, 105, 77, 44, 180, 0, 145]
abbrev dktX12_obstacle_0 : List UInt8 := dkwX12_obstacle_0 ++ dktX12_obstacle_1
theorem dksX12_obstacle_0 : cX12_obstacle.data.toList.drop 0 = dktX12_obstacle_0 := by decide +kernel
theorem dksX12_obstacle_1 : cX12_obstacle.data.toList.drop 24 = dktX12_obstacle_1 := dk_seg dksX12_obstacle_0 24 rfl rfl
theorem dksX12_obstacle_2 : cX12_obstacle.data.toList.drop 46 = dktX12_obstacle_2 := dk_seg dksX12_obstacle_1 22 rfl rfl
theorem dX12_obstacle_0 : decode cX12_obstacle 0 = .ok (.aload_n 0, 1) := dk_42 (dk_at dksX12_obstacle_0 0 rfl rfl)
theorem dX12_obstacle_1 : decode cX12_obstacle 1 = .ok (.getfield 14, 3) := dk_180 0 14 (dk_at dksX12_obstacle_0 1 rfl rfl)
theorem dX12_obstacle_4 : decode cX12_obstacle 4 = .ok (.getfield 95, 3) := dk_180 0 95 (dk_at dksX12_obstacle_0 4 rfl rfl)
theorem dX12_obstacle_7 : decode cX12_obstacle 7 = .ok (.aload_n 0, 1) := dk_42 (dk_at dksX12_obstacle_0 7 rfl rfl)
theorem dX12_obstacle_8 : decode cX12_obstacle 8 = .ok (.getfield 38, 3) := dk_180 0 38 (dk_at dksX12_obstacle_0 8 rfl rfl)
theorem dX12_obstacle_11 : decode cX12_obstacle 11 = .ok (.iload_n 1, 1) := dk_27 (dk_at dksX12_obstacle_0 11 rfl rfl)
theorem dX12_obstacle_12 : decode cX12_obstacle 12 = .ok (.iaload, 1) := dk_46 (dk_at dksX12_obstacle_0 12 rfl rfl)
theorem dX12_obstacle_13 : decode cX12_obstacle 13 = .ok (.invokevirtual 99, 3) := dk_182 0 99 (dk_at dksX12_obstacle_0 13 rfl rfl)
theorem dX12_obstacle_16 : decode cX12_obstacle 16 = .ok (.checkcast 105, 3) := dk_192 0 105 (dk_at dksX12_obstacle_0 16 rfl rfl)
theorem dX12_obstacle_19 : decode cX12_obstacle 19 = .ok (.astore_n 2, 1) := dk_77 (dk_at dksX12_obstacle_0 19 rfl rfl)
theorem dX12_obstacle_20 : decode cX12_obstacle 20 = .ok (.aload_n 2, 1) := dk_44 (dk_at dksX12_obstacle_0 20 rfl rfl)
theorem dX12_obstacle_21 : decode cX12_obstacle 21 = .ok (.getfield 145, 3) := dk_180 0 145 (dk_at dksX12_obstacle_0 21 rfl rfl)
theorem dX12_obstacle_24 : decode cX12_obstacle 24 = .ok (.iconst (-1), 1) := dk_2 (dk_at dksX12_obstacle_1 0 rfl rfl)
theorem dX12_obstacle_25 : decode cX12_obstacle 25 = .ok (.if_icmp .eq 26, 3) := dk_159 0 26 (dk_at dksX12_obstacle_1 1 rfl rfl)
theorem dX12_obstacle_28 : decode cX12_obstacle 28 = .ok (.aload_n 0, 1) := dk_42 (dk_at dksX12_obstacle_1 4 rfl rfl)
theorem dX12_obstacle_29 : decode cX12_obstacle 29 = .ok (.iload_n 1, 1) := dk_27 (dk_at dksX12_obstacle_1 5 rfl rfl)
theorem dX12_obstacle_30 : decode cX12_obstacle 30 = .ok (.invokevirtual 148, 3) := dk_182 0 148 (dk_at dksX12_obstacle_1 6 rfl rfl)
theorem dX12_obstacle_33 : decode cX12_obstacle 33 = .ok (.invokevirtual 152, 3) := dk_182 0 152 (dk_at dksX12_obstacle_1 9 rfl rfl)
theorem dX12_obstacle_36 : decode cX12_obstacle 36 = .ok (.aload_n 2, 1) := dk_44 (dk_at dksX12_obstacle_1 12 rfl rfl)
theorem dX12_obstacle_37 : decode cX12_obstacle 37 = .ok (.getfield 145, 3) := dk_180 0 145 (dk_at dksX12_obstacle_1 13 rfl rfl)
theorem dX12_obstacle_40 : decode cX12_obstacle 40 = .ok (.i2l, 1) := dk_133 (dk_at dksX12_obstacle_1 16 rfl rfl)
theorem dX12_obstacle_41 : decode cX12_obstacle 41 = .ok (.ldc2_w 156, 3) := dk_20 0 156 (dk_at dksX12_obstacle_1 17 rfl rfl)
theorem dX12_obstacle_44 : decode cX12_obstacle 44 = .ok (.lmul, 1) := dk_105 (dk_at dksX12_obstacle_1 20 rfl rfl)
theorem dX12_obstacle_45 : decode cX12_obstacle 45 = .ok (.lcmp, 1) := dk_148 (dk_at dksX12_obstacle_1 21 rfl rfl)
theorem dX12_obstacle_46 : decode cX12_obstacle 46 = .ok (.ifCond .ge 5, 3) := dk_156 0 5 (dk_at dksX12_obstacle_2 0 rfl rfl)
theorem dX12_obstacle_49 : decode cX12_obstacle 49 = .ok (.iconst 2, 1) := dk_5 (dk_at dksX12_obstacle_2 3 rfl rfl)
theorem dX12_obstacle_50 : decode cX12_obstacle 50 = .ok (.ireturn, 1) := dk_172 (dk_at dksX12_obstacle_2 4 rfl rfl)
theorem dX12_obstacle_51 : decode cX12_obstacle 51 = .ok (.aload_n 2, 1) := dk_44 (dk_at dksX12_obstacle_2 5 rfl rfl)
theorem dX12_obstacle_52 : decode cX12_obstacle 52 = .ok (.invokevirtual 158, 3) := dk_182 0 158 (dk_at dksX12_obstacle_2 6 rfl rfl)
theorem dX12_obstacle_55 : decode cX12_obstacle 55 = .ok (.istore_n 3, 1) := dk_62 (dk_at dksX12_obstacle_2 9 rfl rfl)
theorem dX12_obstacle_56 : decode cX12_obstacle 56 = .ok (.iload_n 3, 1) := dk_29 (dk_at dksX12_obstacle_2 10 rfl rfl)
theorem dX12_obstacle_57 : decode cX12_obstacle 57 = .ok (.iconst (-1), 1) := dk_2 (dk_at dksX12_obstacle_2 11 rfl rfl)
theorem dX12_obstacle_58 : decode cX12_obstacle 58 = .ok (.if_icmp .ne 7, 3) := dk_160 0 7 (dk_at dksX12_obstacle_2 12 rfl rfl)
theorem dX12_obstacle_61 : decode cX12_obstacle 61 = .ok (.iconst 0, 1) := dk_3 (dk_at dksX12_obstacle_2 15 rfl rfl)
theorem dX12_obstacle_62 : decode cX12_obstacle 62 = .ok (.goto 6, 3) := dk_167 0 6 (dk_at dksX12_obstacle_2 16 rfl rfl)
theorem dX12_obstacle_65 : decode cX12_obstacle 65 = .ok (.iconst 3, 1) := dk_6 (dk_at dksX12_obstacle_2 19 rfl rfl)
theorem dX12_obstacle_66 : decode cX12_obstacle 66 = .ok (.iload_n 3, 1) := dk_29 (dk_at dksX12_obstacle_2 20 rfl rfl)
theorem dX12_obstacle_67 : decode cX12_obstacle 67 = .ok (.iadd, 1) := dk_96 (dk_at dksX12_obstacle_2 21 rfl rfl)
theorem dX12_obstacle_68 : decode cX12_obstacle 68 = .ok (.ireturn, 1) := dk_172 (dk_at dksX12_obstacle_2 22 rfl rfl)
abbrev cX12_trackOf : ByteArray := prog_9_method_10_code
def yX12_trackOf : MethodName := ⟨RX12, "trackOf", "(I)LAnimationController$Track;"⟩
def dkwX12_trackOf_0 : List UInt8 := [42, 180, 0, 41, 27, 51, 153, 0, 10, 42, 180, 0, 45, 167, 0, 7, 42, 180, 0, 53, 176]
abbrev dktX12_trackOf_0 : List UInt8 := dkwX12_trackOf_0 ++ []
theorem dksX12_trackOf_0 : cX12_trackOf.data.toList.drop 0 = dktX12_trackOf_0 := by decide +kernel
theorem dX12_trackOf_0 : decode cX12_trackOf 0 = .ok (.aload_n 0, 1) := dk_42 (dk_at dksX12_trackOf_0 0 rfl rfl)
theorem dX12_trackOf_1 : decode cX12_trackOf 1 = .ok (.getfield 41, 3) := dk_180 0 41 (dk_at dksX12_trackOf_0 1 rfl rfl)
theorem dX12_trackOf_4 : decode cX12_trackOf 4 = .ok (.iload_n 1, 1) := dk_27 (dk_at dksX12_trackOf_0 4 rfl rfl)
theorem dX12_trackOf_5 : decode cX12_trackOf 5 = .ok (.baload, 1) := dk_51 (dk_at dksX12_trackOf_0 5 rfl rfl)
theorem dX12_trackOf_6 : decode cX12_trackOf 6 = .ok (.ifCond .eq 10, 3) := dk_153 0 10 (dk_at dksX12_trackOf_0 6 rfl rfl)
theorem dX12_trackOf_9 : decode cX12_trackOf 9 = .ok (.aload_n 0, 1) := dk_42 (dk_at dksX12_trackOf_0 9 rfl rfl)
theorem dX12_trackOf_10 : decode cX12_trackOf 10 = .ok (.getfield 45, 3) := dk_180 0 45 (dk_at dksX12_trackOf_0 10 rfl rfl)
theorem dX12_trackOf_13 : decode cX12_trackOf 13 = .ok (.goto 7, 3) := dk_167 0 7 (dk_at dksX12_trackOf_0 13 rfl rfl)
theorem dX12_trackOf_16 : decode cX12_trackOf 16 = .ok (.aload_n 0, 1) := dk_42 (dk_at dksX12_trackOf_0 16 rfl rfl)
theorem dX12_trackOf_17 : decode cX12_trackOf 17 = .ok (.getfield 53, 3) := dk_180 0 53 (dk_at dksX12_trackOf_0 17 rfl rfl)
theorem dX12_trackOf_20 : decode cX12_trackOf 20 = .ok (.areturn, 1) := dk_176 (dk_at dksX12_trackOf_0 20 rfl rfl)
abbrev cX12_take : ByteArray := prog_9_method_14_code
def yX12_take : MethodName := ⟨RX12, "take", "(I)V"⟩
def dkwX12_take_8 : List UInt8 := [154, 0, 7, 42, 182, 0, 203, 177]
abbrev dktX12_take_8 : List UInt8 := dkwX12_take_8 ++ []
def dkwX12_take_7 : List UInt8 := [181, 0, 53, 42, 42, 180, 0, 38, 27, 46, 181, 0, 23, 42, 3, 181, 0, 56, 44, 180, 0, 107]
abbrev dktX12_take_7 : List UInt8 := dkwX12_take_7 ++ dktX12_take_8
def dkwX12_take_6 : List UInt8 := [180, 0, 127, 180, 0, 193, 153, 0, 13, 21, 4, 18, 196, 184, 0, 197, 167, 0, 5, 21, 4, 183, 0, 5]
abbrev dktX12_take_6 : List UInt8 := dkwX12_take_6 ++ dktX12_take_7
def dkwX12_take_5 : List UInt8 := [180, 0, 190, 17, 39, 16, 104, 54, 4, 42, 187, 0, 3, 89, 44, 180, 0, 127, 29, 153, 0, 23, 44]
abbrev dktX12_take_5 : List UInt8 := dkwX12_take_5 ++ dktX12_take_6
def dkwX12_take_4 : List UInt8 := [153, 0, 7, 4, 167, 0, 4, 3, 62, 29, 153, 0, 13, 42, 180, 0, 45, 180, 0, 187, 167, 0, 11, 44]
abbrev dktX12_take_4 : List UInt8 := dkwX12_take_4 ++ dktX12_take_5
def dkwX12_take_3 : List UInt8 := [181, 0, 45, 42, 180, 0, 62, 154, 0, 24, 42, 180, 0, 45, 180, 0, 89, 44, 180, 0, 127, 182, 0, 181]
abbrev dktX12_take_3 : List UInt8 := dkwX12_take_3 ++ dktX12_take_4
def dkwX12_take_2 : List UInt8 := [42, 180, 0, 30, 182, 0, 66, 42, 4, 181, 0, 62, 42, 89, 180, 0, 59, 4, 96, 181, 0, 59, 42, 45]
abbrev dktX12_take_2 : List UInt8 := dkwX12_take_2 ++ dktX12_take_3
def dkwX12_take_1 : List UInt8 := [42, 182, 0, 85, 154, 0, 47, 42, 27, 182, 0, 148, 78, 42, 182, 0, 175, 42, 180, 0, 14, 180, 0, 178]
abbrev dktX12_take_1 : List UInt8 := dkwX12_take_1 ++ dktX12_take_2
def dkwX12_take_0 : List UInt8 := [42, 180, 0, 14, 180, 0, 95, 42, 180, 0, 38, 27, 46, 182, 0, 99, 192, 0, 105, 77, 44, 182, 0, 172]
abbrev dktX12_take_0 : List UInt8 := dkwX12_take_0 ++ dktX12_take_1
theorem dksX12_take_0 : cX12_take.data.toList.drop 0 = dktX12_take_0 := by decide +kernel
theorem dksX12_take_1 : cX12_take.data.toList.drop 24 = dktX12_take_1 := dk_seg dksX12_take_0 24 rfl rfl
theorem dksX12_take_2 : cX12_take.data.toList.drop 48 = dktX12_take_2 := dk_seg dksX12_take_1 24 rfl rfl
theorem dksX12_take_3 : cX12_take.data.toList.drop 72 = dktX12_take_3 := dk_seg dksX12_take_2 24 rfl rfl
theorem dksX12_take_4 : cX12_take.data.toList.drop 96 = dktX12_take_4 := dk_seg dksX12_take_3 24 rfl rfl
theorem dksX12_take_5 : cX12_take.data.toList.drop 120 = dktX12_take_5 := dk_seg dksX12_take_4 24 rfl rfl
theorem dksX12_take_6 : cX12_take.data.toList.drop 143 = dktX12_take_6 := dk_seg dksX12_take_5 23 rfl rfl
theorem dksX12_take_7 : cX12_take.data.toList.drop 167 = dktX12_take_7 := dk_seg dksX12_take_6 24 rfl rfl
theorem dksX12_take_8 : cX12_take.data.toList.drop 189 = dktX12_take_8 := dk_seg dksX12_take_7 22 rfl rfl
theorem dX12_take_0 : decode cX12_take 0 = .ok (.aload_n 0, 1) := dk_42 (dk_at dksX12_take_0 0 rfl rfl)
theorem dX12_take_1 : decode cX12_take 1 = .ok (.getfield 14, 3) := dk_180 0 14 (dk_at dksX12_take_0 1 rfl rfl)
theorem dX12_take_4 : decode cX12_take 4 = .ok (.getfield 95, 3) := dk_180 0 95 (dk_at dksX12_take_0 4 rfl rfl)
theorem dX12_take_7 : decode cX12_take 7 = .ok (.aload_n 0, 1) := dk_42 (dk_at dksX12_take_0 7 rfl rfl)
theorem dX12_take_8 : decode cX12_take 8 = .ok (.getfield 38, 3) := dk_180 0 38 (dk_at dksX12_take_0 8 rfl rfl)
theorem dX12_take_11 : decode cX12_take 11 = .ok (.iload_n 1, 1) := dk_27 (dk_at dksX12_take_0 11 rfl rfl)
theorem dX12_take_12 : decode cX12_take 12 = .ok (.iaload, 1) := dk_46 (dk_at dksX12_take_0 12 rfl rfl)
theorem dX12_take_13 : decode cX12_take 13 = .ok (.invokevirtual 99, 3) := dk_182 0 99 (dk_at dksX12_take_0 13 rfl rfl)
theorem dX12_take_16 : decode cX12_take 16 = .ok (.checkcast 105, 3) := dk_192 0 105 (dk_at dksX12_take_0 16 rfl rfl)
theorem dX12_take_19 : decode cX12_take 19 = .ok (.astore_n 2, 1) := dk_77 (dk_at dksX12_take_0 19 rfl rfl)
theorem dX12_take_20 : decode cX12_take 20 = .ok (.aload_n 2, 1) := dk_44 (dk_at dksX12_take_0 20 rfl rfl)
theorem dX12_take_21 : decode cX12_take 21 = .ok (.invokevirtual 172, 3) := dk_182 0 172 (dk_at dksX12_take_0 21 rfl rfl)
theorem dX12_take_24 : decode cX12_take 24 = .ok (.aload_n 0, 1) := dk_42 (dk_at dksX12_take_1 0 rfl rfl)
theorem dX12_take_25 : decode cX12_take 25 = .ok (.invokevirtual 85, 3) := dk_182 0 85 (dk_at dksX12_take_1 1 rfl rfl)
theorem dX12_take_28 : decode cX12_take 28 = .ok (.ifCond .ne 47, 3) := dk_154 0 47 (dk_at dksX12_take_1 4 rfl rfl)
theorem dX12_take_31 : decode cX12_take 31 = .ok (.aload_n 0, 1) := dk_42 (dk_at dksX12_take_1 7 rfl rfl)
theorem dX12_take_32 : decode cX12_take 32 = .ok (.iload_n 1, 1) := dk_27 (dk_at dksX12_take_1 8 rfl rfl)
theorem dX12_take_33 : decode cX12_take 33 = .ok (.invokevirtual 148, 3) := dk_182 0 148 (dk_at dksX12_take_1 9 rfl rfl)
theorem dX12_take_36 : decode cX12_take 36 = .ok (.astore_n 3, 1) := dk_78 (dk_at dksX12_take_1 12 rfl rfl)
theorem dX12_take_37 : decode cX12_take 37 = .ok (.aload_n 0, 1) := dk_42 (dk_at dksX12_take_1 13 rfl rfl)
theorem dX12_take_38 : decode cX12_take 38 = .ok (.invokevirtual 175, 3) := dk_182 0 175 (dk_at dksX12_take_1 14 rfl rfl)
theorem dX12_take_41 : decode cX12_take 41 = .ok (.aload_n 0, 1) := dk_42 (dk_at dksX12_take_1 17 rfl rfl)
theorem dX12_take_42 : decode cX12_take 42 = .ok (.getfield 14, 3) := dk_180 0 14 (dk_at dksX12_take_1 18 rfl rfl)
theorem dX12_take_45 : decode cX12_take 45 = .ok (.getfield 178, 3) := dk_180 0 178 (dk_at dksX12_take_1 21 rfl rfl)
theorem dX12_take_48 : decode cX12_take 48 = .ok (.aload_n 0, 1) := dk_42 (dk_at dksX12_take_2 0 rfl rfl)
theorem dX12_take_49 : decode cX12_take 49 = .ok (.getfield 30, 3) := dk_180 0 30 (dk_at dksX12_take_2 1 rfl rfl)
theorem dX12_take_52 : decode cX12_take 52 = .ok (.invokevirtual 66, 3) := dk_182 0 66 (dk_at dksX12_take_2 4 rfl rfl)
theorem dX12_take_55 : decode cX12_take 55 = .ok (.aload_n 0, 1) := dk_42 (dk_at dksX12_take_2 7 rfl rfl)
theorem dX12_take_56 : decode cX12_take 56 = .ok (.iconst 1, 1) := dk_4 (dk_at dksX12_take_2 8 rfl rfl)
theorem dX12_take_57 : decode cX12_take 57 = .ok (.putfield 62, 3) := dk_181 0 62 (dk_at dksX12_take_2 9 rfl rfl)
theorem dX12_take_60 : decode cX12_take 60 = .ok (.aload_n 0, 1) := dk_42 (dk_at dksX12_take_2 12 rfl rfl)
theorem dX12_take_61 : decode cX12_take 61 = .ok (.dup, 1) := dk_89 (dk_at dksX12_take_2 13 rfl rfl)
theorem dX12_take_62 : decode cX12_take 62 = .ok (.getfield 59, 3) := dk_180 0 59 (dk_at dksX12_take_2 14 rfl rfl)
theorem dX12_take_65 : decode cX12_take 65 = .ok (.iconst 1, 1) := dk_4 (dk_at dksX12_take_2 17 rfl rfl)
theorem dX12_take_66 : decode cX12_take 66 = .ok (.iadd, 1) := dk_96 (dk_at dksX12_take_2 18 rfl rfl)
theorem dX12_take_67 : decode cX12_take 67 = .ok (.putfield 59, 3) := dk_181 0 59 (dk_at dksX12_take_2 19 rfl rfl)
theorem dX12_take_70 : decode cX12_take 70 = .ok (.aload_n 0, 1) := dk_42 (dk_at dksX12_take_2 22 rfl rfl)
theorem dX12_take_71 : decode cX12_take 71 = .ok (.aload_n 3, 1) := dk_45 (dk_at dksX12_take_2 23 rfl rfl)
theorem dX12_take_72 : decode cX12_take 72 = .ok (.putfield 45, 3) := dk_181 0 45 (dk_at dksX12_take_3 0 rfl rfl)
theorem dX12_take_75 : decode cX12_take 75 = .ok (.aload_n 0, 1) := dk_42 (dk_at dksX12_take_3 3 rfl rfl)
theorem dX12_take_76 : decode cX12_take 76 = .ok (.getfield 62, 3) := dk_180 0 62 (dk_at dksX12_take_3 4 rfl rfl)
theorem dX12_take_79 : decode cX12_take 79 = .ok (.ifCond .ne 24, 3) := dk_154 0 24 (dk_at dksX12_take_3 7 rfl rfl)
theorem dX12_take_82 : decode cX12_take 82 = .ok (.aload_n 0, 1) := dk_42 (dk_at dksX12_take_3 10 rfl rfl)
theorem dX12_take_83 : decode cX12_take 83 = .ok (.getfield 45, 3) := dk_180 0 45 (dk_at dksX12_take_3 11 rfl rfl)
theorem dX12_take_86 : decode cX12_take 86 = .ok (.getfield 89, 3) := dk_180 0 89 (dk_at dksX12_take_3 14 rfl rfl)
theorem dX12_take_89 : decode cX12_take 89 = .ok (.aload_n 2, 1) := dk_44 (dk_at dksX12_take_3 17 rfl rfl)
theorem dX12_take_90 : decode cX12_take 90 = .ok (.getfield 127, 3) := dk_180 0 127 (dk_at dksX12_take_3 18 rfl rfl)
theorem dX12_take_93 : decode cX12_take 93 = .ok (.invokevirtual 181, 3) := dk_182 0 181 (dk_at dksX12_take_3 21 rfl rfl)
theorem dX12_take_96 : decode cX12_take 96 = .ok (.ifCond .eq 7, 3) := dk_153 0 7 (dk_at dksX12_take_4 0 rfl rfl)
theorem dX12_take_99 : decode cX12_take 99 = .ok (.iconst 1, 1) := dk_4 (dk_at dksX12_take_4 3 rfl rfl)
theorem dX12_take_100 : decode cX12_take 100 = .ok (.goto 4, 3) := dk_167 0 4 (dk_at dksX12_take_4 4 rfl rfl)
theorem dX12_take_103 : decode cX12_take 103 = .ok (.iconst 0, 1) := dk_3 (dk_at dksX12_take_4 7 rfl rfl)
theorem dX12_take_104 : decode cX12_take 104 = .ok (.istore_n 3, 1) := dk_62 (dk_at dksX12_take_4 8 rfl rfl)
theorem dX12_take_105 : decode cX12_take 105 = .ok (.iload_n 3, 1) := dk_29 (dk_at dksX12_take_4 9 rfl rfl)
theorem dX12_take_106 : decode cX12_take 106 = .ok (.ifCond .eq 13, 3) := dk_153 0 13 (dk_at dksX12_take_4 10 rfl rfl)
theorem dX12_take_109 : decode cX12_take 109 = .ok (.aload_n 0, 1) := dk_42 (dk_at dksX12_take_4 13 rfl rfl)
theorem dX12_take_110 : decode cX12_take 110 = .ok (.getfield 45, 3) := dk_180 0 45 (dk_at dksX12_take_4 14 rfl rfl)
theorem dX12_take_113 : decode cX12_take 113 = .ok (.getfield 187, 3) := dk_180 0 187 (dk_at dksX12_take_4 17 rfl rfl)
theorem dX12_take_116 : decode cX12_take 116 = .ok (.goto 11, 3) := dk_167 0 11 (dk_at dksX12_take_4 20 rfl rfl)
theorem dX12_take_119 : decode cX12_take 119 = .ok (.aload_n 2, 1) := dk_44 (dk_at dksX12_take_4 23 rfl rfl)
theorem dX12_take_120 : decode cX12_take 120 = .ok (.getfield 190, 3) := dk_180 0 190 (dk_at dksX12_take_5 0 rfl rfl)
theorem dX12_take_123 : decode cX12_take 123 = .ok (.sipush 10000, 3) := dk_17 39 16 (dk_at dksX12_take_5 3 rfl rfl)
theorem dX12_take_126 : decode cX12_take 126 = .ok (.imul, 1) := dk_104 (dk_at dksX12_take_5 6 rfl rfl)
theorem dX12_take_127 : decode cX12_take 127 = .ok (.istore 4, 2) := dk_54 4 (dk_at dksX12_take_5 7 rfl rfl)
theorem dX12_take_129 : decode cX12_take 129 = .ok (.aload_n 0, 1) := dk_42 (dk_at dksX12_take_5 9 rfl rfl)
theorem dX12_take_130 : decode cX12_take 130 = .ok (.new 3, 3) := dk_187 0 3 (dk_at dksX12_take_5 10 rfl rfl)
theorem dX12_take_133 : decode cX12_take 133 = .ok (.dup, 1) := dk_89 (dk_at dksX12_take_5 13 rfl rfl)
theorem dX12_take_134 : decode cX12_take 134 = .ok (.aload_n 2, 1) := dk_44 (dk_at dksX12_take_5 14 rfl rfl)
theorem dX12_take_135 : decode cX12_take 135 = .ok (.getfield 127, 3) := dk_180 0 127 (dk_at dksX12_take_5 15 rfl rfl)
theorem dX12_take_138 : decode cX12_take 138 = .ok (.iload_n 3, 1) := dk_29 (dk_at dksX12_take_5 18 rfl rfl)
theorem dX12_take_139 : decode cX12_take 139 = .ok (.ifCond .eq 23, 3) := dk_153 0 23 (dk_at dksX12_take_5 19 rfl rfl)
theorem dX12_take_142 : decode cX12_take 142 = .ok (.aload_n 2, 1) := dk_44 (dk_at dksX12_take_5 22 rfl rfl)
theorem dX12_take_143 : decode cX12_take 143 = .ok (.getfield 127, 3) := dk_180 0 127 (dk_at dksX12_take_6 0 rfl rfl)
theorem dX12_take_146 : decode cX12_take 146 = .ok (.getfield 193, 3) := dk_180 0 193 (dk_at dksX12_take_6 3 rfl rfl)
theorem dX12_take_149 : decode cX12_take 149 = .ok (.ifCond .eq 13, 3) := dk_153 0 13 (dk_at dksX12_take_6 6 rfl rfl)
theorem dX12_take_152 : decode cX12_take 152 = .ok (.iload 4, 2) := dk_21 4 (dk_at dksX12_take_6 9 rfl rfl)
theorem dX12_take_154 : decode cX12_take 154 = .ok (.ldc 196, 2) := dk_18 196 (dk_at dksX12_take_6 11 rfl rfl)
theorem dX12_take_156 : decode cX12_take 156 = .ok (.invokestatic 197, 3) := dk_184 0 197 (dk_at dksX12_take_6 13 rfl rfl)
theorem dX12_take_159 : decode cX12_take 159 = .ok (.goto 5, 3) := dk_167 0 5 (dk_at dksX12_take_6 16 rfl rfl)
theorem dX12_take_162 : decode cX12_take 162 = .ok (.iload 4, 2) := dk_21 4 (dk_at dksX12_take_6 19 rfl rfl)
theorem dX12_take_164 : decode cX12_take 164 = .ok (.invokespecial 5, 3) := dk_183 0 5 (dk_at dksX12_take_6 21 rfl rfl)
theorem dX12_take_167 : decode cX12_take 167 = .ok (.putfield 53, 3) := dk_181 0 53 (dk_at dksX12_take_7 0 rfl rfl)
theorem dX12_take_170 : decode cX12_take 170 = .ok (.aload_n 0, 1) := dk_42 (dk_at dksX12_take_7 3 rfl rfl)
theorem dX12_take_171 : decode cX12_take 171 = .ok (.aload_n 0, 1) := dk_42 (dk_at dksX12_take_7 4 rfl rfl)
theorem dX12_take_172 : decode cX12_take 172 = .ok (.getfield 38, 3) := dk_180 0 38 (dk_at dksX12_take_7 5 rfl rfl)
theorem dX12_take_175 : decode cX12_take 175 = .ok (.iload_n 1, 1) := dk_27 (dk_at dksX12_take_7 8 rfl rfl)
theorem dX12_take_176 : decode cX12_take 176 = .ok (.iaload, 1) := dk_46 (dk_at dksX12_take_7 9 rfl rfl)
theorem dX12_take_177 : decode cX12_take 177 = .ok (.putfield 23, 3) := dk_181 0 23 (dk_at dksX12_take_7 10 rfl rfl)
theorem dX12_take_180 : decode cX12_take 180 = .ok (.aload_n 0, 1) := dk_42 (dk_at dksX12_take_7 13 rfl rfl)
theorem dX12_take_181 : decode cX12_take 181 = .ok (.iconst 0, 1) := dk_3 (dk_at dksX12_take_7 14 rfl rfl)
theorem dX12_take_182 : decode cX12_take 182 = .ok (.putfield 56, 3) := dk_181 0 56 (dk_at dksX12_take_7 15 rfl rfl)
theorem dX12_take_185 : decode cX12_take 185 = .ok (.aload_n 2, 1) := dk_44 (dk_at dksX12_take_7 18 rfl rfl)
theorem dX12_take_186 : decode cX12_take 186 = .ok (.getfield 107, 3) := dk_180 0 107 (dk_at dksX12_take_7 19 rfl rfl)
theorem dX12_take_189 : decode cX12_take 189 = .ok (.ifCond .ne 7, 3) := dk_154 0 7 (dk_at dksX12_take_8 0 rfl rfl)
theorem dX12_take_192 : decode cX12_take 192 = .ok (.aload_n 0, 1) := dk_42 (dk_at dksX12_take_8 3 rfl rfl)
theorem dX12_take_193 : decode cX12_take 193 = .ok (.invokevirtual 203, 3) := dk_182 0 203 (dk_at dksX12_take_8 4 rfl rfl)
theorem dX12_take_196 : decode cX12_take 196 = .ok (.return_, 1) := dk_177 (dk_at dksX12_take_8 7 rfl rfl)
abbrev cX12_end : ByteArray := prog_9_method_15_code
def yX12_end : MethodName := ⟨RX12, "end", "()V"⟩
def dkwX12_end_1 : List UInt8 := [3, 181, 0, 59, 42, 3, 181, 0, 62, 177]
abbrev dktX12_end_1 : List UInt8 := dkwX12_end_1 ++ []
def dkwX12_end_0 : List UInt8 := [42, 42, 180, 0, 53, 181, 0, 45, 42, 1, 181, 0, 53, 42, 2, 181, 0, 23, 42, 3, 181, 0, 56, 42]
abbrev dktX12_end_0 : List UInt8 := dkwX12_end_0 ++ dktX12_end_1
theorem dksX12_end_0 : cX12_end.data.toList.drop 0 = dktX12_end_0 := by decide +kernel
theorem dksX12_end_1 : cX12_end.data.toList.drop 24 = dktX12_end_1 := dk_seg dksX12_end_0 24 rfl rfl
theorem dX12_end_0 : decode cX12_end 0 = .ok (.aload_n 0, 1) := dk_42 (dk_at dksX12_end_0 0 rfl rfl)
theorem dX12_end_1 : decode cX12_end 1 = .ok (.aload_n 0, 1) := dk_42 (dk_at dksX12_end_0 1 rfl rfl)
theorem dX12_end_2 : decode cX12_end 2 = .ok (.getfield 53, 3) := dk_180 0 53 (dk_at dksX12_end_0 2 rfl rfl)
theorem dX12_end_5 : decode cX12_end 5 = .ok (.putfield 45, 3) := dk_181 0 45 (dk_at dksX12_end_0 5 rfl rfl)
theorem dX12_end_8 : decode cX12_end 8 = .ok (.aload_n 0, 1) := dk_42 (dk_at dksX12_end_0 8 rfl rfl)
theorem dX12_end_9 : decode cX12_end 9 = .ok (.aconst_null, 1) := dk_1 (dk_at dksX12_end_0 9 rfl rfl)
theorem dX12_end_10 : decode cX12_end 10 = .ok (.putfield 53, 3) := dk_181 0 53 (dk_at dksX12_end_0 10 rfl rfl)
theorem dX12_end_13 : decode cX12_end 13 = .ok (.aload_n 0, 1) := dk_42 (dk_at dksX12_end_0 13 rfl rfl)
theorem dX12_end_14 : decode cX12_end 14 = .ok (.iconst (-1), 1) := dk_2 (dk_at dksX12_end_0 14 rfl rfl)
theorem dX12_end_15 : decode cX12_end 15 = .ok (.putfield 23, 3) := dk_181 0 23 (dk_at dksX12_end_0 15 rfl rfl)
theorem dX12_end_18 : decode cX12_end 18 = .ok (.aload_n 0, 1) := dk_42 (dk_at dksX12_end_0 18 rfl rfl)
theorem dX12_end_19 : decode cX12_end 19 = .ok (.iconst 0, 1) := dk_3 (dk_at dksX12_end_0 19 rfl rfl)
theorem dX12_end_20 : decode cX12_end 20 = .ok (.putfield 56, 3) := dk_181 0 56 (dk_at dksX12_end_0 20 rfl rfl)
theorem dX12_end_23 : decode cX12_end 23 = .ok (.aload_n 0, 1) := dk_42 (dk_at dksX12_end_0 23 rfl rfl)
theorem dX12_end_24 : decode cX12_end 24 = .ok (.iconst 0, 1) := dk_3 (dk_at dksX12_end_1 0 rfl rfl)
theorem dX12_end_25 : decode cX12_end 25 = .ok (.putfield 59, 3) := dk_181 0 59 (dk_at dksX12_end_1 1 rfl rfl)
theorem dX12_end_28 : decode cX12_end 28 = .ok (.aload_n 0, 1) := dk_42 (dk_at dksX12_end_1 4 rfl rfl)
theorem dX12_end_29 : decode cX12_end 29 = .ok (.iconst 0, 1) := dk_3 (dk_at dksX12_end_1 5 rfl rfl)
theorem dX12_end_30 : decode cX12_end 30 = .ok (.putfield 62, 3) := dk_181 0 62 (dk_at dksX12_end_1 6 rfl rfl)
theorem dX12_end_33 : decode cX12_end 33 = .ok (.return_, 1) := dk_177 (dk_at dksX12_end_1 9 rfl rfl)
abbrev cX12_advance : ByteArray := prog_9_method_17_code
def yX12_advance : MethodName := ⟨RX12, "advance", "(LAnimationController$Track;)V"⟩
def dkwX12_advance_1 : List UInt8 := [182, 0, 215, 182, 0, 219, 177]
abbrev dktX12_advance_1 : List UInt8 := dkwX12_advance_1 ++ []
def dkwX12_advance_0 : List UInt8 := [43, 42, 43, 180, 0, 89, 180, 0, 208, 133, 42, 180, 0, 14, 43, 180, 0, 89, 182, 0, 211, 133]
abbrev dktX12_advance_0 : List UInt8 := dkwX12_advance_0 ++ dktX12_advance_1
theorem dksX12_advance_0 : cX12_advance.data.toList.drop 0 = dktX12_advance_0 := by decide +kernel
theorem dksX12_advance_1 : cX12_advance.data.toList.drop 22 = dktX12_advance_1 := dk_seg dksX12_advance_0 22 rfl rfl
theorem dX12_advance_0 : decode cX12_advance 0 = .ok (.aload_n 1, 1) := dk_43 (dk_at dksX12_advance_0 0 rfl rfl)
theorem dX12_advance_1 : decode cX12_advance 1 = .ok (.aload_n 0, 1) := dk_42 (dk_at dksX12_advance_0 1 rfl rfl)
theorem dX12_advance_2 : decode cX12_advance 2 = .ok (.aload_n 1, 1) := dk_43 (dk_at dksX12_advance_0 2 rfl rfl)
theorem dX12_advance_3 : decode cX12_advance 3 = .ok (.getfield 89, 3) := dk_180 0 89 (dk_at dksX12_advance_0 3 rfl rfl)
theorem dX12_advance_6 : decode cX12_advance 6 = .ok (.getfield 208, 3) := dk_180 0 208 (dk_at dksX12_advance_0 6 rfl rfl)
theorem dX12_advance_9 : decode cX12_advance 9 = .ok (.i2l, 1) := dk_133 (dk_at dksX12_advance_0 9 rfl rfl)
theorem dX12_advance_10 : decode cX12_advance 10 = .ok (.aload_n 0, 1) := dk_42 (dk_at dksX12_advance_0 10 rfl rfl)
theorem dX12_advance_11 : decode cX12_advance 11 = .ok (.getfield 14, 3) := dk_180 0 14 (dk_at dksX12_advance_0 11 rfl rfl)
theorem dX12_advance_14 : decode cX12_advance 14 = .ok (.aload_n 1, 1) := dk_43 (dk_at dksX12_advance_0 14 rfl rfl)
theorem dX12_advance_15 : decode cX12_advance 15 = .ok (.getfield 89, 3) := dk_180 0 89 (dk_at dksX12_advance_0 15 rfl rfl)
theorem dX12_advance_18 : decode cX12_advance 18 = .ok (.invokevirtual 211, 3) := dk_182 0 211 (dk_at dksX12_advance_0 18 rfl rfl)
theorem dX12_advance_21 : decode cX12_advance 21 = .ok (.i2l, 1) := dk_133 (dk_at dksX12_advance_0 21 rfl rfl)
theorem dX12_advance_22 : decode cX12_advance 22 = .ok (.invokevirtual 215, 3) := dk_182 0 215 (dk_at dksX12_advance_1 0 rfl rfl)
theorem dX12_advance_25 : decode cX12_advance 25 = .ok (.invokevirtual 219, 3) := dk_182 0 219 (dk_at dksX12_advance_1 3 rfl rfl)
theorem dX12_advance_28 : decode cX12_advance 28 = .ok (.return_, 1) := dk_177 (dk_at dksX12_advance_1 6 rfl rfl)
abbrev cX12_stepOf : ByteArray := prog_9_method_16_code
def yX12_stepOf : MethodName := ⟨RX12, "stepOf", "(JJ)J"⟩
def dkwX12_stepOf_0 : List UInt8 := [20, 0, 93, 31, 105, 20, 0, 206, 33, 105, 109, 173]
abbrev dktX12_stepOf_0 : List UInt8 := dkwX12_stepOf_0 ++ []
theorem dksX12_stepOf_0 : cX12_stepOf.data.toList.drop 0 = dktX12_stepOf_0 := by decide +kernel
theorem dX12_stepOf_0 : decode cX12_stepOf 0 = .ok (.ldc2_w 93, 3) := dk_20 0 93 (dk_at dksX12_stepOf_0 0 rfl rfl)
theorem dX12_stepOf_3 : decode cX12_stepOf 3 = .ok (.lload_n 1, 1) := dk_31 (dk_at dksX12_stepOf_0 3 rfl rfl)
theorem dX12_stepOf_4 : decode cX12_stepOf 4 = .ok (.lmul, 1) := dk_105 (dk_at dksX12_stepOf_0 4 rfl rfl)
theorem dX12_stepOf_5 : decode cX12_stepOf 5 = .ok (.ldc2_w 206, 3) := dk_20 0 206 (dk_at dksX12_stepOf_0 5 rfl rfl)
theorem dX12_stepOf_8 : decode cX12_stepOf 8 = .ok (.lload_n 3, 1) := dk_33 (dk_at dksX12_stepOf_0 8 rfl rfl)
theorem dX12_stepOf_9 : decode cX12_stepOf 9 = .ok (.lmul, 1) := dk_105 (dk_at dksX12_stepOf_0 9 rfl rfl)
theorem dX12_stepOf_10 : decode cX12_stepOf 10 = .ok (.ldiv, 1) := dk_109 (dk_at dksX12_stepOf_0 10 rfl rfl)
theorem dX12_stepOf_11 : decode cX12_stepOf 11 = .ok (.lreturn, 1) := dk_173 (dk_at dksX12_stepOf_0 11 rfl rfl)
abbrev cX12_advanceTogether : ByteArray := prog_9_method_18_code
def yX12_advanceTogether : MethodName := ⟨RX12, "advanceTogether", "()V"⟩
def dkwX12_advanceTogether_3 : List UInt8 := [182, 0, 215, 55, 6, 42, 180, 0, 45, 22, 6, 182, 0, 219, 42, 180, 0, 53, 22, 6, 182, 0, 219, 177]
abbrev dktX12_advanceTogether_3 : List UInt8 := dkwX12_advanceTogether_3 ++ []
def dkwX12_advanceTogether_2 : List UInt8 := [180, 0, 14, 42, 180, 0, 53, 180, 0, 89, 182, 0, 211, 182, 0, 226, 55, 4, 42, 32, 22, 4]
abbrev dktX12_advanceTogether_2 : List UInt8 := dkwX12_advanceTogether_2 ++ dktX12_advanceTogether_3
def dkwX12_advanceTogether_1 : List UInt8 := [180, 0, 208, 182, 0, 226, 65, 42, 27, 42, 180, 0, 14, 42, 180, 0, 45, 180, 0, 89, 182, 0, 211, 42]
abbrev dktX12_advanceTogether_1 : List UInt8 := dkwX12_advanceTogether_1 ++ dktX12_advanceTogether_2
def dkwX12_advanceTogether_0 : List UInt8 := [42, 182, 0, 223, 60, 42, 27, 42, 180, 0, 45, 180, 0, 89, 180, 0, 208, 42, 180, 0, 53, 180, 0, 89]
abbrev dktX12_advanceTogether_0 : List UInt8 := dkwX12_advanceTogether_0 ++ dktX12_advanceTogether_1
theorem dksX12_advanceTogether_0 : cX12_advanceTogether.data.toList.drop 0 = dktX12_advanceTogether_0 := by decide +kernel
theorem dksX12_advanceTogether_1 : cX12_advanceTogether.data.toList.drop 24 = dktX12_advanceTogether_1 := dk_seg dksX12_advanceTogether_0 24 rfl rfl
theorem dksX12_advanceTogether_2 : cX12_advanceTogether.data.toList.drop 48 = dktX12_advanceTogether_2 := dk_seg dksX12_advanceTogether_1 24 rfl rfl
theorem dksX12_advanceTogether_3 : cX12_advanceTogether.data.toList.drop 70 = dktX12_advanceTogether_3 := dk_seg dksX12_advanceTogether_2 22 rfl rfl
theorem dX12_advanceTogether_0 : decode cX12_advanceTogether 0 = .ok (.aload_n 0, 1) := dk_42 (dk_at dksX12_advanceTogether_0 0 rfl rfl)
theorem dX12_advanceTogether_1 : decode cX12_advanceTogether 1 = .ok (.invokevirtual 223, 3) := dk_182 0 223 (dk_at dksX12_advanceTogether_0 1 rfl rfl)
theorem dX12_advanceTogether_4 : decode cX12_advanceTogether 4 = .ok (.istore_n 1, 1) := dk_60 (dk_at dksX12_advanceTogether_0 4 rfl rfl)
theorem dX12_advanceTogether_5 : decode cX12_advanceTogether 5 = .ok (.aload_n 0, 1) := dk_42 (dk_at dksX12_advanceTogether_0 5 rfl rfl)
theorem dX12_advanceTogether_6 : decode cX12_advanceTogether 6 = .ok (.iload_n 1, 1) := dk_27 (dk_at dksX12_advanceTogether_0 6 rfl rfl)
theorem dX12_advanceTogether_7 : decode cX12_advanceTogether 7 = .ok (.aload_n 0, 1) := dk_42 (dk_at dksX12_advanceTogether_0 7 rfl rfl)
theorem dX12_advanceTogether_8 : decode cX12_advanceTogether 8 = .ok (.getfield 45, 3) := dk_180 0 45 (dk_at dksX12_advanceTogether_0 8 rfl rfl)
theorem dX12_advanceTogether_11 : decode cX12_advanceTogether 11 = .ok (.getfield 89, 3) := dk_180 0 89 (dk_at dksX12_advanceTogether_0 11 rfl rfl)
theorem dX12_advanceTogether_14 : decode cX12_advanceTogether 14 = .ok (.getfield 208, 3) := dk_180 0 208 (dk_at dksX12_advanceTogether_0 14 rfl rfl)
theorem dX12_advanceTogether_17 : decode cX12_advanceTogether 17 = .ok (.aload_n 0, 1) := dk_42 (dk_at dksX12_advanceTogether_0 17 rfl rfl)
theorem dX12_advanceTogether_18 : decode cX12_advanceTogether 18 = .ok (.getfield 53, 3) := dk_180 0 53 (dk_at dksX12_advanceTogether_0 18 rfl rfl)
theorem dX12_advanceTogether_21 : decode cX12_advanceTogether 21 = .ok (.getfield 89, 3) := dk_180 0 89 (dk_at dksX12_advanceTogether_0 21 rfl rfl)
theorem dX12_advanceTogether_24 : decode cX12_advanceTogether 24 = .ok (.getfield 208, 3) := dk_180 0 208 (dk_at dksX12_advanceTogether_1 0 rfl rfl)
theorem dX12_advanceTogether_27 : decode cX12_advanceTogether 27 = .ok (.invokevirtual 226, 3) := dk_182 0 226 (dk_at dksX12_advanceTogether_1 3 rfl rfl)
theorem dX12_advanceTogether_30 : decode cX12_advanceTogether 30 = .ok (.lstore_n 2, 1) := dk_65 (dk_at dksX12_advanceTogether_1 6 rfl rfl)
theorem dX12_advanceTogether_31 : decode cX12_advanceTogether 31 = .ok (.aload_n 0, 1) := dk_42 (dk_at dksX12_advanceTogether_1 7 rfl rfl)
theorem dX12_advanceTogether_32 : decode cX12_advanceTogether 32 = .ok (.iload_n 1, 1) := dk_27 (dk_at dksX12_advanceTogether_1 8 rfl rfl)
theorem dX12_advanceTogether_33 : decode cX12_advanceTogether 33 = .ok (.aload_n 0, 1) := dk_42 (dk_at dksX12_advanceTogether_1 9 rfl rfl)
theorem dX12_advanceTogether_34 : decode cX12_advanceTogether 34 = .ok (.getfield 14, 3) := dk_180 0 14 (dk_at dksX12_advanceTogether_1 10 rfl rfl)
theorem dX12_advanceTogether_37 : decode cX12_advanceTogether 37 = .ok (.aload_n 0, 1) := dk_42 (dk_at dksX12_advanceTogether_1 13 rfl rfl)
theorem dX12_advanceTogether_38 : decode cX12_advanceTogether 38 = .ok (.getfield 45, 3) := dk_180 0 45 (dk_at dksX12_advanceTogether_1 14 rfl rfl)
theorem dX12_advanceTogether_41 : decode cX12_advanceTogether 41 = .ok (.getfield 89, 3) := dk_180 0 89 (dk_at dksX12_advanceTogether_1 17 rfl rfl)
theorem dX12_advanceTogether_44 : decode cX12_advanceTogether 44 = .ok (.invokevirtual 211, 3) := dk_182 0 211 (dk_at dksX12_advanceTogether_1 20 rfl rfl)
theorem dX12_advanceTogether_47 : decode cX12_advanceTogether 47 = .ok (.aload_n 0, 1) := dk_42 (dk_at dksX12_advanceTogether_1 23 rfl rfl)
theorem dX12_advanceTogether_48 : decode cX12_advanceTogether 48 = .ok (.getfield 14, 3) := dk_180 0 14 (dk_at dksX12_advanceTogether_2 0 rfl rfl)
theorem dX12_advanceTogether_51 : decode cX12_advanceTogether 51 = .ok (.aload_n 0, 1) := dk_42 (dk_at dksX12_advanceTogether_2 3 rfl rfl)
theorem dX12_advanceTogether_52 : decode cX12_advanceTogether 52 = .ok (.getfield 53, 3) := dk_180 0 53 (dk_at dksX12_advanceTogether_2 4 rfl rfl)
theorem dX12_advanceTogether_55 : decode cX12_advanceTogether 55 = .ok (.getfield 89, 3) := dk_180 0 89 (dk_at dksX12_advanceTogether_2 7 rfl rfl)
theorem dX12_advanceTogether_58 : decode cX12_advanceTogether 58 = .ok (.invokevirtual 211, 3) := dk_182 0 211 (dk_at dksX12_advanceTogether_2 10 rfl rfl)
theorem dX12_advanceTogether_61 : decode cX12_advanceTogether 61 = .ok (.invokevirtual 226, 3) := dk_182 0 226 (dk_at dksX12_advanceTogether_2 13 rfl rfl)
theorem dX12_advanceTogether_64 : decode cX12_advanceTogether 64 = .ok (.lstore 4, 2) := dk_55 4 (dk_at dksX12_advanceTogether_2 16 rfl rfl)
theorem dX12_advanceTogether_66 : decode cX12_advanceTogether 66 = .ok (.aload_n 0, 1) := dk_42 (dk_at dksX12_advanceTogether_2 18 rfl rfl)
theorem dX12_advanceTogether_67 : decode cX12_advanceTogether 67 = .ok (.lload_n 2, 1) := dk_32 (dk_at dksX12_advanceTogether_2 19 rfl rfl)
theorem dX12_advanceTogether_68 : decode cX12_advanceTogether 68 = .ok (.lload 4, 2) := dk_22 4 (dk_at dksX12_advanceTogether_2 20 rfl rfl)
theorem dX12_advanceTogether_70 : decode cX12_advanceTogether 70 = .ok (.invokevirtual 215, 3) := dk_182 0 215 (dk_at dksX12_advanceTogether_3 0 rfl rfl)
theorem dX12_advanceTogether_73 : decode cX12_advanceTogether 73 = .ok (.lstore 6, 2) := dk_55 6 (dk_at dksX12_advanceTogether_3 3 rfl rfl)
theorem dX12_advanceTogether_75 : decode cX12_advanceTogether 75 = .ok (.aload_n 0, 1) := dk_42 (dk_at dksX12_advanceTogether_3 5 rfl rfl)
theorem dX12_advanceTogether_76 : decode cX12_advanceTogether 76 = .ok (.getfield 45, 3) := dk_180 0 45 (dk_at dksX12_advanceTogether_3 6 rfl rfl)
theorem dX12_advanceTogether_79 : decode cX12_advanceTogether 79 = .ok (.lload 6, 2) := dk_22 6 (dk_at dksX12_advanceTogether_3 9 rfl rfl)
theorem dX12_advanceTogether_81 : decode cX12_advanceTogether 81 = .ok (.invokevirtual 219, 3) := dk_182 0 219 (dk_at dksX12_advanceTogether_3 11 rfl rfl)
theorem dX12_advanceTogether_84 : decode cX12_advanceTogether 84 = .ok (.aload_n 0, 1) := dk_42 (dk_at dksX12_advanceTogether_3 14 rfl rfl)
theorem dX12_advanceTogether_85 : decode cX12_advanceTogether 85 = .ok (.getfield 53, 3) := dk_180 0 53 (dk_at dksX12_advanceTogether_3 15 rfl rfl)
theorem dX12_advanceTogether_88 : decode cX12_advanceTogether 88 = .ok (.lload 6, 2) := dk_22 6 (dk_at dksX12_advanceTogether_3 18 rfl rfl)
theorem dX12_advanceTogether_90 : decode cX12_advanceTogether 90 = .ok (.invokevirtual 219, 3) := dk_182 0 219 (dk_at dksX12_advanceTogether_3 20 rfl rfl)
theorem dX12_advanceTogether_93 : decode cX12_advanceTogether 93 = .ok (.return_, 1) := dk_177 (dk_at dksX12_advanceTogether_3 23 rfl rfl)
abbrev cX12_mixed : ByteArray := prog_9_method_19_code
def yX12_mixed : MethodName := ⟨RX12, "mixed", "(III)J"⟩
def dkwX12_mixed_0 : List UInt8 := [18, 230, 27, 100, 133, 28, 133, 105, 27, 133, 29, 133, 105, 97, 20, 0, 93, 109, 173]
abbrev dktX12_mixed_0 : List UInt8 := dkwX12_mixed_0 ++ []
theorem dksX12_mixed_0 : cX12_mixed.data.toList.drop 0 = dktX12_mixed_0 := by decide +kernel
theorem dX12_mixed_0 : decode cX12_mixed 0 = .ok (.ldc 230, 2) := dk_18 230 (dk_at dksX12_mixed_0 0 rfl rfl)
theorem dX12_mixed_2 : decode cX12_mixed 2 = .ok (.iload_n 1, 1) := dk_27 (dk_at dksX12_mixed_0 2 rfl rfl)
theorem dX12_mixed_3 : decode cX12_mixed 3 = .ok (.isub, 1) := dk_100 (dk_at dksX12_mixed_0 3 rfl rfl)
theorem dX12_mixed_4 : decode cX12_mixed 4 = .ok (.i2l, 1) := dk_133 (dk_at dksX12_mixed_0 4 rfl rfl)
theorem dX12_mixed_5 : decode cX12_mixed 5 = .ok (.iload_n 2, 1) := dk_28 (dk_at dksX12_mixed_0 5 rfl rfl)
theorem dX12_mixed_6 : decode cX12_mixed 6 = .ok (.i2l, 1) := dk_133 (dk_at dksX12_mixed_0 6 rfl rfl)
theorem dX12_mixed_7 : decode cX12_mixed 7 = .ok (.lmul, 1) := dk_105 (dk_at dksX12_mixed_0 7 rfl rfl)
theorem dX12_mixed_8 : decode cX12_mixed 8 = .ok (.iload_n 1, 1) := dk_27 (dk_at dksX12_mixed_0 8 rfl rfl)
theorem dX12_mixed_9 : decode cX12_mixed 9 = .ok (.i2l, 1) := dk_133 (dk_at dksX12_mixed_0 9 rfl rfl)
theorem dX12_mixed_10 : decode cX12_mixed 10 = .ok (.iload_n 3, 1) := dk_29 (dk_at dksX12_mixed_0 10 rfl rfl)
theorem dX12_mixed_11 : decode cX12_mixed 11 = .ok (.i2l, 1) := dk_133 (dk_at dksX12_mixed_0 11 rfl rfl)
theorem dX12_mixed_12 : decode cX12_mixed 12 = .ok (.lmul, 1) := dk_105 (dk_at dksX12_mixed_0 12 rfl rfl)
theorem dX12_mixed_13 : decode cX12_mixed 13 = .ok (.ladd, 1) := dk_97 (dk_at dksX12_mixed_0 13 rfl rfl)
theorem dX12_mixed_14 : decode cX12_mixed 14 = .ok (.ldc2_w 93, 3) := dk_20 0 93 (dk_at dksX12_mixed_0 14 rfl rfl)
theorem dX12_mixed_17 : decode cX12_mixed 17 = .ok (.ldiv, 1) := dk_109 (dk_at dksX12_mixed_0 17 rfl rfl)
theorem dX12_mixed_18 : decode cX12_mixed 18 = .ok (.lreturn, 1) := dk_173 (dk_at dksX12_mixed_0 18 rfl rfl)
abbrev cX12_fire : ByteArray := prog_9_method_21_code
def yX12_fire : MethodName := ⟨RX12, "fire", "(LAnimationController$Track;I)V"⟩
def dkwX12_fire_5 : List UInt8 := [181, 1, 16, 177]
abbrev dktX12_fire_5 : List UInt8 := dkwX12_fire_5 ++ []
def dkwX12_fire_4 : List UInt8 := [180, 0, 14, 180, 1, 0, 29, 182, 0, 99, 192, 1, 11, 182, 1, 13, 132, 3, 1, 167, 255, 172, 43, 3]
abbrev dktX12_fire_4 : List UInt8 := dkwX12_fire_4 ++ dktX12_fire_5
def dkwX12_fire_3 : List UInt8 := [20, 0, 206, 105, 42, 180, 0, 14, 180, 1, 8, 133, 20, 0, 93, 105, 148, 155, 0, 22, 42, 43, 42]
abbrev dktX12_fire_3 : List UInt8 := dkwX12_fire_3 ++ dktX12_fire_4
def dkwX12_fire_2 : List UInt8 := [180, 0, 244, 180, 1, 3, 29, 46, 158, 0, 55, 42, 180, 0, 14, 180, 0, 244, 180, 1, 3, 29, 46, 133]
abbrev dktX12_fire_2 : List UInt8 := dkwX12_fire_2 ++ dktX12_fire_3
def dkwX12_fire_1 : List UInt8 := [182, 0, 252, 3, 62, 29, 42, 180, 0, 14, 180, 1, 0, 182, 0, 120, 162, 0, 76, 42, 180, 0, 14]
abbrev dktX12_fire_1 : List UInt8 := dkwX12_fire_1 ++ dktX12_fire_2
def dkwX12_fire_0 : List UInt8 := [28, 158, 0, 114, 42, 180, 0, 14, 42, 180, 0, 14, 180, 0, 244, 43, 180, 0, 89, 180, 0, 248, 28]
abbrev dktX12_fire_0 : List UInt8 := dkwX12_fire_0 ++ dktX12_fire_1
theorem dksX12_fire_0 : cX12_fire.data.toList.drop 0 = dktX12_fire_0 := by decide +kernel
theorem dksX12_fire_1 : cX12_fire.data.toList.drop 23 = dktX12_fire_1 := dk_seg dksX12_fire_0 23 rfl rfl
theorem dksX12_fire_2 : cX12_fire.data.toList.drop 46 = dktX12_fire_2 := dk_seg dksX12_fire_1 23 rfl rfl
theorem dksX12_fire_3 : cX12_fire.data.toList.drop 70 = dktX12_fire_3 := dk_seg dksX12_fire_2 24 rfl rfl
theorem dksX12_fire_4 : cX12_fire.data.toList.drop 93 = dktX12_fire_4 := dk_seg dksX12_fire_3 23 rfl rfl
theorem dksX12_fire_5 : cX12_fire.data.toList.drop 117 = dktX12_fire_5 := dk_seg dksX12_fire_4 24 rfl rfl
theorem dX12_fire_0 : decode cX12_fire 0 = .ok (.iload_n 2, 1) := dk_28 (dk_at dksX12_fire_0 0 rfl rfl)
theorem dX12_fire_1 : decode cX12_fire 1 = .ok (.ifCond .le 114, 3) := dk_158 0 114 (dk_at dksX12_fire_0 1 rfl rfl)
theorem dX12_fire_4 : decode cX12_fire 4 = .ok (.aload_n 0, 1) := dk_42 (dk_at dksX12_fire_0 4 rfl rfl)
theorem dX12_fire_5 : decode cX12_fire 5 = .ok (.getfield 14, 3) := dk_180 0 14 (dk_at dksX12_fire_0 5 rfl rfl)
theorem dX12_fire_8 : decode cX12_fire 8 = .ok (.aload_n 0, 1) := dk_42 (dk_at dksX12_fire_0 8 rfl rfl)
theorem dX12_fire_9 : decode cX12_fire 9 = .ok (.getfield 14, 3) := dk_180 0 14 (dk_at dksX12_fire_0 9 rfl rfl)
theorem dX12_fire_12 : decode cX12_fire 12 = .ok (.getfield 244, 3) := dk_180 0 244 (dk_at dksX12_fire_0 12 rfl rfl)
theorem dX12_fire_15 : decode cX12_fire 15 = .ok (.aload_n 1, 1) := dk_43 (dk_at dksX12_fire_0 15 rfl rfl)
theorem dX12_fire_16 : decode cX12_fire 16 = .ok (.getfield 89, 3) := dk_180 0 89 (dk_at dksX12_fire_0 16 rfl rfl)
theorem dX12_fire_19 : decode cX12_fire 19 = .ok (.getfield 248, 3) := dk_180 0 248 (dk_at dksX12_fire_0 19 rfl rfl)
theorem dX12_fire_22 : decode cX12_fire 22 = .ok (.iload_n 2, 1) := dk_28 (dk_at dksX12_fire_0 22 rfl rfl)
theorem dX12_fire_23 : decode cX12_fire 23 = .ok (.invokevirtual 252, 3) := dk_182 0 252 (dk_at dksX12_fire_1 0 rfl rfl)
theorem dX12_fire_26 : decode cX12_fire 26 = .ok (.iconst 0, 1) := dk_3 (dk_at dksX12_fire_1 3 rfl rfl)
theorem dX12_fire_27 : decode cX12_fire 27 = .ok (.istore_n 3, 1) := dk_62 (dk_at dksX12_fire_1 4 rfl rfl)
theorem dX12_fire_28 : decode cX12_fire 28 = .ok (.iload_n 3, 1) := dk_29 (dk_at dksX12_fire_1 5 rfl rfl)
theorem dX12_fire_29 : decode cX12_fire 29 = .ok (.aload_n 0, 1) := dk_42 (dk_at dksX12_fire_1 6 rfl rfl)
theorem dX12_fire_30 : decode cX12_fire 30 = .ok (.getfield 14, 3) := dk_180 0 14 (dk_at dksX12_fire_1 7 rfl rfl)
theorem dX12_fire_33 : decode cX12_fire 33 = .ok (.getfield 256, 3) := dk_180 1 0 (dk_at dksX12_fire_1 10 rfl rfl)
theorem dX12_fire_36 : decode cX12_fire 36 = .ok (.invokevirtual 120, 3) := dk_182 0 120 (dk_at dksX12_fire_1 13 rfl rfl)
theorem dX12_fire_39 : decode cX12_fire 39 = .ok (.if_icmp .ge 76, 3) := dk_162 0 76 (dk_at dksX12_fire_1 16 rfl rfl)
theorem dX12_fire_42 : decode cX12_fire 42 = .ok (.aload_n 0, 1) := dk_42 (dk_at dksX12_fire_1 19 rfl rfl)
theorem dX12_fire_43 : decode cX12_fire 43 = .ok (.getfield 14, 3) := dk_180 0 14 (dk_at dksX12_fire_1 20 rfl rfl)
theorem dX12_fire_46 : decode cX12_fire 46 = .ok (.getfield 244, 3) := dk_180 0 244 (dk_at dksX12_fire_2 0 rfl rfl)
theorem dX12_fire_49 : decode cX12_fire 49 = .ok (.getfield 259, 3) := dk_180 1 3 (dk_at dksX12_fire_2 3 rfl rfl)
theorem dX12_fire_52 : decode cX12_fire 52 = .ok (.iload_n 3, 1) := dk_29 (dk_at dksX12_fire_2 6 rfl rfl)
theorem dX12_fire_53 : decode cX12_fire 53 = .ok (.iaload, 1) := dk_46 (dk_at dksX12_fire_2 7 rfl rfl)
theorem dX12_fire_54 : decode cX12_fire 54 = .ok (.ifCond .le 55, 3) := dk_158 0 55 (dk_at dksX12_fire_2 8 rfl rfl)
theorem dX12_fire_57 : decode cX12_fire 57 = .ok (.aload_n 0, 1) := dk_42 (dk_at dksX12_fire_2 11 rfl rfl)
theorem dX12_fire_58 : decode cX12_fire 58 = .ok (.getfield 14, 3) := dk_180 0 14 (dk_at dksX12_fire_2 12 rfl rfl)
theorem dX12_fire_61 : decode cX12_fire 61 = .ok (.getfield 244, 3) := dk_180 0 244 (dk_at dksX12_fire_2 15 rfl rfl)
theorem dX12_fire_64 : decode cX12_fire 64 = .ok (.getfield 259, 3) := dk_180 1 3 (dk_at dksX12_fire_2 18 rfl rfl)
theorem dX12_fire_67 : decode cX12_fire 67 = .ok (.iload_n 3, 1) := dk_29 (dk_at dksX12_fire_2 21 rfl rfl)
theorem dX12_fire_68 : decode cX12_fire 68 = .ok (.iaload, 1) := dk_46 (dk_at dksX12_fire_2 22 rfl rfl)
theorem dX12_fire_69 : decode cX12_fire 69 = .ok (.i2l, 1) := dk_133 (dk_at dksX12_fire_2 23 rfl rfl)
theorem dX12_fire_70 : decode cX12_fire 70 = .ok (.ldc2_w 206, 3) := dk_20 0 206 (dk_at dksX12_fire_3 0 rfl rfl)
theorem dX12_fire_73 : decode cX12_fire 73 = .ok (.lmul, 1) := dk_105 (dk_at dksX12_fire_3 3 rfl rfl)
theorem dX12_fire_74 : decode cX12_fire 74 = .ok (.aload_n 0, 1) := dk_42 (dk_at dksX12_fire_3 4 rfl rfl)
theorem dX12_fire_75 : decode cX12_fire 75 = .ok (.getfield 14, 3) := dk_180 0 14 (dk_at dksX12_fire_3 5 rfl rfl)
theorem dX12_fire_78 : decode cX12_fire 78 = .ok (.getfield 264, 3) := dk_180 1 8 (dk_at dksX12_fire_3 8 rfl rfl)
theorem dX12_fire_81 : decode cX12_fire 81 = .ok (.i2l, 1) := dk_133 (dk_at dksX12_fire_3 11 rfl rfl)
theorem dX12_fire_82 : decode cX12_fire 82 = .ok (.ldc2_w 93, 3) := dk_20 0 93 (dk_at dksX12_fire_3 12 rfl rfl)
theorem dX12_fire_85 : decode cX12_fire 85 = .ok (.lmul, 1) := dk_105 (dk_at dksX12_fire_3 15 rfl rfl)
theorem dX12_fire_86 : decode cX12_fire 86 = .ok (.lcmp, 1) := dk_148 (dk_at dksX12_fire_3 16 rfl rfl)
theorem dX12_fire_87 : decode cX12_fire 87 = .ok (.ifCond .lt 22, 3) := dk_155 0 22 (dk_at dksX12_fire_3 17 rfl rfl)
theorem dX12_fire_90 : decode cX12_fire 90 = .ok (.aload_n 0, 1) := dk_42 (dk_at dksX12_fire_3 20 rfl rfl)
theorem dX12_fire_91 : decode cX12_fire 91 = .ok (.aload_n 1, 1) := dk_43 (dk_at dksX12_fire_3 21 rfl rfl)
theorem dX12_fire_92 : decode cX12_fire 92 = .ok (.aload_n 0, 1) := dk_42 (dk_at dksX12_fire_3 22 rfl rfl)
theorem dX12_fire_93 : decode cX12_fire 93 = .ok (.getfield 14, 3) := dk_180 0 14 (dk_at dksX12_fire_4 0 rfl rfl)
theorem dX12_fire_96 : decode cX12_fire 96 = .ok (.getfield 256, 3) := dk_180 1 0 (dk_at dksX12_fire_4 3 rfl rfl)
theorem dX12_fire_99 : decode cX12_fire 99 = .ok (.iload_n 3, 1) := dk_29 (dk_at dksX12_fire_4 6 rfl rfl)
theorem dX12_fire_100 : decode cX12_fire 100 = .ok (.invokevirtual 99, 3) := dk_182 0 99 (dk_at dksX12_fire_4 7 rfl rfl)
theorem dX12_fire_103 : decode cX12_fire 103 = .ok (.checkcast 267, 3) := dk_192 1 11 (dk_at dksX12_fire_4 10 rfl rfl)
theorem dX12_fire_106 : decode cX12_fire 106 = .ok (.invokevirtual 269, 3) := dk_182 1 13 (dk_at dksX12_fire_4 13 rfl rfl)
theorem dX12_fire_109 : decode cX12_fire 109 = .ok (.iinc 3 1, 3) := dk_132 3 1 (dk_at dksX12_fire_4 16 rfl rfl)
theorem dX12_fire_112 : decode cX12_fire 112 = .ok (.goto (-84), 3) := dk_167 255 172 (dk_at dksX12_fire_4 19 rfl rfl)
theorem dX12_fire_115 : decode cX12_fire 115 = .ok (.aload_n 1, 1) := dk_43 (dk_at dksX12_fire_4 22 rfl rfl)
theorem dX12_fire_116 : decode cX12_fire 116 = .ok (.iconst 0, 1) := dk_3 (dk_at dksX12_fire_4 23 rfl rfl)
theorem dX12_fire_117 : decode cX12_fire 117 = .ok (.putfield 272, 3) := dk_181 1 16 (dk_at dksX12_fire_5 0 rfl rfl)
theorem dX12_fire_120 : decode cX12_fire 120 = .ok (.return_, 1) := dk_177 (dk_at dksX12_fire_5 3 rfl rfl)
abbrev cX12_fire_2 : ByteArray := prog_9_method_22_code
def yX12_fire_2 : MethodName := ⟨RX12, "fire", "(LAnimationController$Track;LAnimationController$Clip;)V"⟩
def dkwX12_fire_2_3 : List UInt8 := [132, 3, 1, 167, 255, 185, 177]
abbrev dktX12_fire_2_3 : List UInt8 := dkwX12_fire_2_3 ++ []
def dkwX12_fire_2_2 : List UInt8 := [153, 0, 23, 42, 25, 4, 180, 1, 32, 44, 180, 1, 35, 43, 180, 0, 89, 180, 1, 38, 182, 1, 39]
abbrev dktX12_fire_2_2 : List UInt8 := dkwX12_fire_2_2 ++ dktX12_fire_2_3
def dkwX12_fire_2_1 : List UInt8 := [58, 4, 43, 25, 4, 180, 1, 23, 133, 20, 0, 93, 44, 180, 1, 26, 133, 184, 0, 110, 182, 1, 29]
abbrev dktX12_fire_2_1 : List UInt8 := dkwX12_fire_2_1 ++ dktX12_fire_2_2
def dkwX12_fire_2_0 : List UInt8 := [3, 62, 29, 44, 180, 1, 19, 182, 0, 120, 162, 0, 66, 44, 180, 1, 19, 29, 182, 0, 99, 192, 1, 21]
abbrev dktX12_fire_2_0 : List UInt8 := dkwX12_fire_2_0 ++ dktX12_fire_2_1
theorem dksX12_fire_2_0 : cX12_fire_2.data.toList.drop 0 = dktX12_fire_2_0 := by decide +kernel
theorem dksX12_fire_2_1 : cX12_fire_2.data.toList.drop 24 = dktX12_fire_2_1 := dk_seg dksX12_fire_2_0 24 rfl rfl
theorem dksX12_fire_2_2 : cX12_fire_2.data.toList.drop 47 = dktX12_fire_2_2 := dk_seg dksX12_fire_2_1 23 rfl rfl
theorem dksX12_fire_2_3 : cX12_fire_2.data.toList.drop 70 = dktX12_fire_2_3 := dk_seg dksX12_fire_2_2 23 rfl rfl
theorem dX12_fire_2_0 : decode cX12_fire_2 0 = .ok (.iconst 0, 1) := dk_3 (dk_at dksX12_fire_2_0 0 rfl rfl)
theorem dX12_fire_2_1 : decode cX12_fire_2 1 = .ok (.istore_n 3, 1) := dk_62 (dk_at dksX12_fire_2_0 1 rfl rfl)
theorem dX12_fire_2_2 : decode cX12_fire_2 2 = .ok (.iload_n 3, 1) := dk_29 (dk_at dksX12_fire_2_0 2 rfl rfl)
theorem dX12_fire_2_3 : decode cX12_fire_2 3 = .ok (.aload_n 2, 1) := dk_44 (dk_at dksX12_fire_2_0 3 rfl rfl)
theorem dX12_fire_2_4 : decode cX12_fire_2 4 = .ok (.getfield 275, 3) := dk_180 1 19 (dk_at dksX12_fire_2_0 4 rfl rfl)
theorem dX12_fire_2_7 : decode cX12_fire_2 7 = .ok (.invokevirtual 120, 3) := dk_182 0 120 (dk_at dksX12_fire_2_0 7 rfl rfl)
theorem dX12_fire_2_10 : decode cX12_fire_2 10 = .ok (.if_icmp .ge 66, 3) := dk_162 0 66 (dk_at dksX12_fire_2_0 10 rfl rfl)
theorem dX12_fire_2_13 : decode cX12_fire_2 13 = .ok (.aload_n 2, 1) := dk_44 (dk_at dksX12_fire_2_0 13 rfl rfl)
theorem dX12_fire_2_14 : decode cX12_fire_2 14 = .ok (.getfield 275, 3) := dk_180 1 19 (dk_at dksX12_fire_2_0 14 rfl rfl)
theorem dX12_fire_2_17 : decode cX12_fire_2 17 = .ok (.iload_n 3, 1) := dk_29 (dk_at dksX12_fire_2_0 17 rfl rfl)
theorem dX12_fire_2_18 : decode cX12_fire_2 18 = .ok (.invokevirtual 99, 3) := dk_182 0 99 (dk_at dksX12_fire_2_0 18 rfl rfl)
theorem dX12_fire_2_21 : decode cX12_fire_2 21 = .ok (.checkcast 277, 3) := dk_192 1 21 (dk_at dksX12_fire_2_0 21 rfl rfl)
theorem dX12_fire_2_24 : decode cX12_fire_2 24 = .ok (.astore 4, 2) := dk_58 4 (dk_at dksX12_fire_2_1 0 rfl rfl)
theorem dX12_fire_2_26 : decode cX12_fire_2 26 = .ok (.aload_n 1, 1) := dk_43 (dk_at dksX12_fire_2_1 2 rfl rfl)
theorem dX12_fire_2_27 : decode cX12_fire_2 27 = .ok (.aload 4, 2) := dk_25 4 (dk_at dksX12_fire_2_1 3 rfl rfl)
theorem dX12_fire_2_29 : decode cX12_fire_2 29 = .ok (.getfield 279, 3) := dk_180 1 23 (dk_at dksX12_fire_2_1 5 rfl rfl)
theorem dX12_fire_2_32 : decode cX12_fire_2 32 = .ok (.i2l, 1) := dk_133 (dk_at dksX12_fire_2_1 8 rfl rfl)
theorem dX12_fire_2_33 : decode cX12_fire_2 33 = .ok (.ldc2_w 93, 3) := dk_20 0 93 (dk_at dksX12_fire_2_1 9 rfl rfl)
theorem dX12_fire_2_36 : decode cX12_fire_2 36 = .ok (.aload_n 2, 1) := dk_44 (dk_at dksX12_fire_2_1 12 rfl rfl)
theorem dX12_fire_2_37 : decode cX12_fire_2 37 = .ok (.getfield 282, 3) := dk_180 1 26 (dk_at dksX12_fire_2_1 13 rfl rfl)
theorem dX12_fire_2_40 : decode cX12_fire_2 40 = .ok (.i2l, 1) := dk_133 (dk_at dksX12_fire_2_1 16 rfl rfl)
theorem dX12_fire_2_41 : decode cX12_fire_2 41 = .ok (.invokestatic 110, 3) := dk_184 0 110 (dk_at dksX12_fire_2_1 17 rfl rfl)
theorem dX12_fire_2_44 : decode cX12_fire_2 44 = .ok (.invokevirtual 285, 3) := dk_182 1 29 (dk_at dksX12_fire_2_1 20 rfl rfl)
theorem dX12_fire_2_47 : decode cX12_fire_2 47 = .ok (.ifCond .eq 23, 3) := dk_153 0 23 (dk_at dksX12_fire_2_2 0 rfl rfl)
theorem dX12_fire_2_50 : decode cX12_fire_2 50 = .ok (.aload_n 0, 1) := dk_42 (dk_at dksX12_fire_2_2 3 rfl rfl)
theorem dX12_fire_2_51 : decode cX12_fire_2 51 = .ok (.aload 4, 2) := dk_25 4 (dk_at dksX12_fire_2_2 4 rfl rfl)
theorem dX12_fire_2_53 : decode cX12_fire_2 53 = .ok (.getfield 288, 3) := dk_180 1 32 (dk_at dksX12_fire_2_2 6 rfl rfl)
theorem dX12_fire_2_56 : decode cX12_fire_2 56 = .ok (.aload_n 2, 1) := dk_44 (dk_at dksX12_fire_2_2 9 rfl rfl)
theorem dX12_fire_2_57 : decode cX12_fire_2 57 = .ok (.getfield 291, 3) := dk_180 1 35 (dk_at dksX12_fire_2_2 10 rfl rfl)
theorem dX12_fire_2_60 : decode cX12_fire_2 60 = .ok (.aload_n 1, 1) := dk_43 (dk_at dksX12_fire_2_2 13 rfl rfl)
theorem dX12_fire_2_61 : decode cX12_fire_2 61 = .ok (.getfield 89, 3) := dk_180 0 89 (dk_at dksX12_fire_2_2 14 rfl rfl)
theorem dX12_fire_2_64 : decode cX12_fire_2 64 = .ok (.getfield 294, 3) := dk_180 1 38 (dk_at dksX12_fire_2_2 17 rfl rfl)
theorem dX12_fire_2_67 : decode cX12_fire_2 67 = .ok (.invokevirtual 295, 3) := dk_182 1 39 (dk_at dksX12_fire_2_2 20 rfl rfl)
theorem dX12_fire_2_70 : decode cX12_fire_2 70 = .ok (.iinc 3 1, 3) := dk_132 3 1 (dk_at dksX12_fire_2_3 0 rfl rfl)
theorem dX12_fire_2_73 : decode cX12_fire_2 73 = .ok (.goto (-71), 3) := dk_167 255 185 (dk_at dksX12_fire_2_3 3 rfl rfl)
theorem dX12_fire_2_76 : decode cX12_fire_2 76 = .ok (.return_, 1) := dk_177 (dk_at dksX12_fire_2_3 6 rfl rfl)
abbrev cX12_note : ByteArray := prog_9_method_23_code
def yX12_note : MethodName := ⟨RX12, "note", "(III)V"⟩
def dkwX12_note_4 : List UInt8 := [42, 89, 180, 0, 76, 4, 96, 181, 0, 76, 42, 89, 180, 0, 79, 4, 96, 181, 0, 79, 177]
abbrev dktX12_note_4 : List UInt8 := dkwX12_note_4 ++ []
def dkwX12_note_3 : List UInt8 := [7, 42, 180, 0, 76, 104, 5, 96, 28, 79, 42, 180, 0, 34, 7, 42, 180, 0, 76, 104, 6, 96, 29, 79]
abbrev dktX12_note_3 : List UInt8 := dkwX12_note_3 ++ dktX12_note_4
def dkwX12_note_2 : List UInt8 := [104, 42, 180, 0, 82, 79, 42, 180, 0, 34, 7, 42, 180, 0, 76, 104, 4, 96, 27, 79, 42, 180, 0, 34]
abbrev dktX12_note_2 : List UInt8 := dkwX12_note_2 ++ dktX12_note_3
def dkwX12_note_1 : List UInt8 := [7, 100, 184, 0, 70, 42, 89, 180, 0, 76, 4, 100, 181, 0, 76, 42, 180, 0, 34, 7, 42, 180, 0, 76]
abbrev dktX12_note_1 : List UInt8 := dkwX12_note_1 ++ dktX12_note_2
def dkwX12_note_0 : List UInt8 := [42, 180, 0, 76, 16, 30, 160, 0, 33, 42, 180, 0, 34, 7, 42, 180, 0, 34, 3, 42, 180, 0, 34, 190]
abbrev dktX12_note_0 : List UInt8 := dkwX12_note_0 ++ dktX12_note_1
theorem dksX12_note_0 : cX12_note.data.toList.drop 0 = dktX12_note_0 := by decide +kernel
theorem dksX12_note_1 : cX12_note.data.toList.drop 24 = dktX12_note_1 := dk_seg dksX12_note_0 24 rfl rfl
theorem dksX12_note_2 : cX12_note.data.toList.drop 48 = dktX12_note_2 := dk_seg dksX12_note_1 24 rfl rfl
theorem dksX12_note_3 : cX12_note.data.toList.drop 72 = dktX12_note_3 := dk_seg dksX12_note_2 24 rfl rfl
theorem dksX12_note_4 : cX12_note.data.toList.drop 96 = dktX12_note_4 := dk_seg dksX12_note_3 24 rfl rfl
theorem dX12_note_0 : decode cX12_note 0 = .ok (.aload_n 0, 1) := dk_42 (dk_at dksX12_note_0 0 rfl rfl)
theorem dX12_note_1 : decode cX12_note 1 = .ok (.getfield 76, 3) := dk_180 0 76 (dk_at dksX12_note_0 1 rfl rfl)
theorem dX12_note_4 : decode cX12_note 4 = .ok (.bipush 30, 2) := dk_16 30 (dk_at dksX12_note_0 4 rfl rfl)
theorem dX12_note_6 : decode cX12_note 6 = .ok (.if_icmp .ne 33, 3) := dk_160 0 33 (dk_at dksX12_note_0 6 rfl rfl)
theorem dX12_note_9 : decode cX12_note 9 = .ok (.aload_n 0, 1) := dk_42 (dk_at dksX12_note_0 9 rfl rfl)
theorem dX12_note_10 : decode cX12_note 10 = .ok (.getfield 34, 3) := dk_180 0 34 (dk_at dksX12_note_0 10 rfl rfl)
theorem dX12_note_13 : decode cX12_note 13 = .ok (.iconst 4, 1) := dk_7 (dk_at dksX12_note_0 13 rfl rfl)
theorem dX12_note_14 : decode cX12_note 14 = .ok (.aload_n 0, 1) := dk_42 (dk_at dksX12_note_0 14 rfl rfl)
theorem dX12_note_15 : decode cX12_note 15 = .ok (.getfield 34, 3) := dk_180 0 34 (dk_at dksX12_note_0 15 rfl rfl)
theorem dX12_note_18 : decode cX12_note 18 = .ok (.iconst 0, 1) := dk_3 (dk_at dksX12_note_0 18 rfl rfl)
theorem dX12_note_19 : decode cX12_note 19 = .ok (.aload_n 0, 1) := dk_42 (dk_at dksX12_note_0 19 rfl rfl)
theorem dX12_note_20 : decode cX12_note 20 = .ok (.getfield 34, 3) := dk_180 0 34 (dk_at dksX12_note_0 20 rfl rfl)
theorem dX12_note_23 : decode cX12_note 23 = .ok (.arraylength, 1) := dk_190 (dk_at dksX12_note_0 23 rfl rfl)
theorem dX12_note_24 : decode cX12_note 24 = .ok (.iconst 4, 1) := dk_7 (dk_at dksX12_note_1 0 rfl rfl)
theorem dX12_note_25 : decode cX12_note 25 = .ok (.isub, 1) := dk_100 (dk_at dksX12_note_1 1 rfl rfl)
theorem dX12_note_26 : decode cX12_note 26 = .ok (.invokestatic 70, 3) := dk_184 0 70 (dk_at dksX12_note_1 2 rfl rfl)
theorem dX12_note_29 : decode cX12_note 29 = .ok (.aload_n 0, 1) := dk_42 (dk_at dksX12_note_1 5 rfl rfl)
theorem dX12_note_30 : decode cX12_note 30 = .ok (.dup, 1) := dk_89 (dk_at dksX12_note_1 6 rfl rfl)
theorem dX12_note_31 : decode cX12_note 31 = .ok (.getfield 76, 3) := dk_180 0 76 (dk_at dksX12_note_1 7 rfl rfl)
theorem dX12_note_34 : decode cX12_note 34 = .ok (.iconst 1, 1) := dk_4 (dk_at dksX12_note_1 10 rfl rfl)
theorem dX12_note_35 : decode cX12_note 35 = .ok (.isub, 1) := dk_100 (dk_at dksX12_note_1 11 rfl rfl)
theorem dX12_note_36 : decode cX12_note 36 = .ok (.putfield 76, 3) := dk_181 0 76 (dk_at dksX12_note_1 12 rfl rfl)
theorem dX12_note_39 : decode cX12_note 39 = .ok (.aload_n 0, 1) := dk_42 (dk_at dksX12_note_1 15 rfl rfl)
theorem dX12_note_40 : decode cX12_note 40 = .ok (.getfield 34, 3) := dk_180 0 34 (dk_at dksX12_note_1 16 rfl rfl)
theorem dX12_note_43 : decode cX12_note 43 = .ok (.iconst 4, 1) := dk_7 (dk_at dksX12_note_1 19 rfl rfl)
theorem dX12_note_44 : decode cX12_note 44 = .ok (.aload_n 0, 1) := dk_42 (dk_at dksX12_note_1 20 rfl rfl)
theorem dX12_note_45 : decode cX12_note 45 = .ok (.getfield 76, 3) := dk_180 0 76 (dk_at dksX12_note_1 21 rfl rfl)
theorem dX12_note_48 : decode cX12_note 48 = .ok (.imul, 1) := dk_104 (dk_at dksX12_note_2 0 rfl rfl)
theorem dX12_note_49 : decode cX12_note 49 = .ok (.aload_n 0, 1) := dk_42 (dk_at dksX12_note_2 1 rfl rfl)
theorem dX12_note_50 : decode cX12_note 50 = .ok (.getfield 82, 3) := dk_180 0 82 (dk_at dksX12_note_2 2 rfl rfl)
theorem dX12_note_53 : decode cX12_note 53 = .ok (.iastore, 1) := dk_79 (dk_at dksX12_note_2 5 rfl rfl)
theorem dX12_note_54 : decode cX12_note 54 = .ok (.aload_n 0, 1) := dk_42 (dk_at dksX12_note_2 6 rfl rfl)
theorem dX12_note_55 : decode cX12_note 55 = .ok (.getfield 34, 3) := dk_180 0 34 (dk_at dksX12_note_2 7 rfl rfl)
theorem dX12_note_58 : decode cX12_note 58 = .ok (.iconst 4, 1) := dk_7 (dk_at dksX12_note_2 10 rfl rfl)
theorem dX12_note_59 : decode cX12_note 59 = .ok (.aload_n 0, 1) := dk_42 (dk_at dksX12_note_2 11 rfl rfl)
theorem dX12_note_60 : decode cX12_note 60 = .ok (.getfield 76, 3) := dk_180 0 76 (dk_at dksX12_note_2 12 rfl rfl)
theorem dX12_note_63 : decode cX12_note 63 = .ok (.imul, 1) := dk_104 (dk_at dksX12_note_2 15 rfl rfl)
theorem dX12_note_64 : decode cX12_note 64 = .ok (.iconst 1, 1) := dk_4 (dk_at dksX12_note_2 16 rfl rfl)
theorem dX12_note_65 : decode cX12_note 65 = .ok (.iadd, 1) := dk_96 (dk_at dksX12_note_2 17 rfl rfl)
theorem dX12_note_66 : decode cX12_note 66 = .ok (.iload_n 1, 1) := dk_27 (dk_at dksX12_note_2 18 rfl rfl)
theorem dX12_note_67 : decode cX12_note 67 = .ok (.iastore, 1) := dk_79 (dk_at dksX12_note_2 19 rfl rfl)
theorem dX12_note_68 : decode cX12_note 68 = .ok (.aload_n 0, 1) := dk_42 (dk_at dksX12_note_2 20 rfl rfl)
theorem dX12_note_69 : decode cX12_note 69 = .ok (.getfield 34, 3) := dk_180 0 34 (dk_at dksX12_note_2 21 rfl rfl)
theorem dX12_note_72 : decode cX12_note 72 = .ok (.iconst 4, 1) := dk_7 (dk_at dksX12_note_3 0 rfl rfl)
theorem dX12_note_73 : decode cX12_note 73 = .ok (.aload_n 0, 1) := dk_42 (dk_at dksX12_note_3 1 rfl rfl)
theorem dX12_note_74 : decode cX12_note 74 = .ok (.getfield 76, 3) := dk_180 0 76 (dk_at dksX12_note_3 2 rfl rfl)
theorem dX12_note_77 : decode cX12_note 77 = .ok (.imul, 1) := dk_104 (dk_at dksX12_note_3 5 rfl rfl)
theorem dX12_note_78 : decode cX12_note 78 = .ok (.iconst 2, 1) := dk_5 (dk_at dksX12_note_3 6 rfl rfl)
theorem dX12_note_79 : decode cX12_note 79 = .ok (.iadd, 1) := dk_96 (dk_at dksX12_note_3 7 rfl rfl)
theorem dX12_note_80 : decode cX12_note 80 = .ok (.iload_n 2, 1) := dk_28 (dk_at dksX12_note_3 8 rfl rfl)
theorem dX12_note_81 : decode cX12_note 81 = .ok (.iastore, 1) := dk_79 (dk_at dksX12_note_3 9 rfl rfl)
theorem dX12_note_82 : decode cX12_note 82 = .ok (.aload_n 0, 1) := dk_42 (dk_at dksX12_note_3 10 rfl rfl)
theorem dX12_note_83 : decode cX12_note 83 = .ok (.getfield 34, 3) := dk_180 0 34 (dk_at dksX12_note_3 11 rfl rfl)
theorem dX12_note_86 : decode cX12_note 86 = .ok (.iconst 4, 1) := dk_7 (dk_at dksX12_note_3 14 rfl rfl)
theorem dX12_note_87 : decode cX12_note 87 = .ok (.aload_n 0, 1) := dk_42 (dk_at dksX12_note_3 15 rfl rfl)
theorem dX12_note_88 : decode cX12_note 88 = .ok (.getfield 76, 3) := dk_180 0 76 (dk_at dksX12_note_3 16 rfl rfl)
theorem dX12_note_91 : decode cX12_note 91 = .ok (.imul, 1) := dk_104 (dk_at dksX12_note_3 19 rfl rfl)
theorem dX12_note_92 : decode cX12_note 92 = .ok (.iconst 3, 1) := dk_6 (dk_at dksX12_note_3 20 rfl rfl)
theorem dX12_note_93 : decode cX12_note 93 = .ok (.iadd, 1) := dk_96 (dk_at dksX12_note_3 21 rfl rfl)
theorem dX12_note_94 : decode cX12_note 94 = .ok (.iload_n 3, 1) := dk_29 (dk_at dksX12_note_3 22 rfl rfl)
theorem dX12_note_95 : decode cX12_note 95 = .ok (.iastore, 1) := dk_79 (dk_at dksX12_note_3 23 rfl rfl)
theorem dX12_note_96 : decode cX12_note 96 = .ok (.aload_n 0, 1) := dk_42 (dk_at dksX12_note_4 0 rfl rfl)
theorem dX12_note_97 : decode cX12_note 97 = .ok (.dup, 1) := dk_89 (dk_at dksX12_note_4 1 rfl rfl)
theorem dX12_note_98 : decode cX12_note 98 = .ok (.getfield 76, 3) := dk_180 0 76 (dk_at dksX12_note_4 2 rfl rfl)
theorem dX12_note_101 : decode cX12_note 101 = .ok (.iconst 1, 1) := dk_4 (dk_at dksX12_note_4 5 rfl rfl)
theorem dX12_note_102 : decode cX12_note 102 = .ok (.iadd, 1) := dk_96 (dk_at dksX12_note_4 6 rfl rfl)
theorem dX12_note_103 : decode cX12_note 103 = .ok (.putfield 76, 3) := dk_181 0 76 (dk_at dksX12_note_4 7 rfl rfl)
theorem dX12_note_106 : decode cX12_note 106 = .ok (.aload_n 0, 1) := dk_42 (dk_at dksX12_note_4 10 rfl rfl)
theorem dX12_note_107 : decode cX12_note 107 = .ok (.dup, 1) := dk_89 (dk_at dksX12_note_4 11 rfl rfl)
theorem dX12_note_108 : decode cX12_note 108 = .ok (.getfield 79, 3) := dk_180 0 79 (dk_at dksX12_note_4 12 rfl rfl)
theorem dX12_note_111 : decode cX12_note 111 = .ok (.iconst 1, 1) := dk_4 (dk_at dksX12_note_4 15 rfl rfl)
theorem dX12_note_112 : decode cX12_note 112 = .ok (.iadd, 1) := dk_96 (dk_at dksX12_note_4 16 rfl rfl)
theorem dX12_note_113 : decode cX12_note 113 = .ok (.putfield 79, 3) := dk_181 0 79 (dk_at dksX12_note_4 17 rfl rfl)
theorem dX12_note_116 : decode cX12_note 116 = .ok (.return_, 1) := dk_177 (dk_at dksX12_note_4 20 rfl rfl)
abbrev cX12_obstacleOf : ByteArray := prog_9_method_12_code
def yX12_obstacleOf : MethodName := ⟨RX12, "obstacleOf", "(I)I"⟩
def dkwX12_obstacleOf_1 : List UInt8 := [42, 28, 182, 0, 164, 172, 132, 2, 1, 167, 255, 229, 4, 172]
abbrev dktX12_obstacleOf_1 : List UInt8 := dkwX12_obstacleOf_1 ++ []
def dkwX12_obstacleOf_0 : List UInt8 := [42, 182, 0, 161, 3, 61, 28, 42, 180, 0, 114, 162, 0, 25, 42, 180, 0, 38, 28, 46, 27, 160, 0, 9]
abbrev dktX12_obstacleOf_0 : List UInt8 := dkwX12_obstacleOf_0 ++ dktX12_obstacleOf_1
theorem dksX12_obstacleOf_0 : cX12_obstacleOf.data.toList.drop 0 = dktX12_obstacleOf_0 := by decide +kernel
theorem dksX12_obstacleOf_1 : cX12_obstacleOf.data.toList.drop 24 = dktX12_obstacleOf_1 := dk_seg dksX12_obstacleOf_0 24 rfl rfl
theorem dX12_obstacleOf_0 : decode cX12_obstacleOf 0 = .ok (.aload_n 0, 1) := dk_42 (dk_at dksX12_obstacleOf_0 0 rfl rfl)
theorem dX12_obstacleOf_1 : decode cX12_obstacleOf 1 = .ok (.invokevirtual 161, 3) := dk_182 0 161 (dk_at dksX12_obstacleOf_0 1 rfl rfl)
theorem dX12_obstacleOf_4 : decode cX12_obstacleOf 4 = .ok (.iconst 0, 1) := dk_3 (dk_at dksX12_obstacleOf_0 4 rfl rfl)
theorem dX12_obstacleOf_5 : decode cX12_obstacleOf 5 = .ok (.istore_n 2, 1) := dk_61 (dk_at dksX12_obstacleOf_0 5 rfl rfl)
theorem dX12_obstacleOf_6 : decode cX12_obstacleOf 6 = .ok (.iload_n 2, 1) := dk_28 (dk_at dksX12_obstacleOf_0 6 rfl rfl)
theorem dX12_obstacleOf_7 : decode cX12_obstacleOf 7 = .ok (.aload_n 0, 1) := dk_42 (dk_at dksX12_obstacleOf_0 7 rfl rfl)
theorem dX12_obstacleOf_8 : decode cX12_obstacleOf 8 = .ok (.getfield 114, 3) := dk_180 0 114 (dk_at dksX12_obstacleOf_0 8 rfl rfl)
theorem dX12_obstacleOf_11 : decode cX12_obstacleOf 11 = .ok (.if_icmp .ge 25, 3) := dk_162 0 25 (dk_at dksX12_obstacleOf_0 11 rfl rfl)
theorem dX12_obstacleOf_14 : decode cX12_obstacleOf 14 = .ok (.aload_n 0, 1) := dk_42 (dk_at dksX12_obstacleOf_0 14 rfl rfl)
theorem dX12_obstacleOf_15 : decode cX12_obstacleOf 15 = .ok (.getfield 38, 3) := dk_180 0 38 (dk_at dksX12_obstacleOf_0 15 rfl rfl)
theorem dX12_obstacleOf_18 : decode cX12_obstacleOf 18 = .ok (.iload_n 2, 1) := dk_28 (dk_at dksX12_obstacleOf_0 18 rfl rfl)
theorem dX12_obstacleOf_19 : decode cX12_obstacleOf 19 = .ok (.iaload, 1) := dk_46 (dk_at dksX12_obstacleOf_0 19 rfl rfl)
theorem dX12_obstacleOf_20 : decode cX12_obstacleOf 20 = .ok (.iload_n 1, 1) := dk_27 (dk_at dksX12_obstacleOf_0 20 rfl rfl)
theorem dX12_obstacleOf_21 : decode cX12_obstacleOf 21 = .ok (.if_icmp .ne 9, 3) := dk_160 0 9 (dk_at dksX12_obstacleOf_0 21 rfl rfl)
theorem dX12_obstacleOf_24 : decode cX12_obstacleOf 24 = .ok (.aload_n 0, 1) := dk_42 (dk_at dksX12_obstacleOf_1 0 rfl rfl)
theorem dX12_obstacleOf_25 : decode cX12_obstacleOf 25 = .ok (.iload_n 2, 1) := dk_28 (dk_at dksX12_obstacleOf_1 1 rfl rfl)
theorem dX12_obstacleOf_26 : decode cX12_obstacleOf 26 = .ok (.invokevirtual 164, 3) := dk_182 0 164 (dk_at dksX12_obstacleOf_1 2 rfl rfl)
theorem dX12_obstacleOf_29 : decode cX12_obstacleOf 29 = .ok (.ireturn, 1) := dk_172 (dk_at dksX12_obstacleOf_1 5 rfl rfl)
theorem dX12_obstacleOf_30 : decode cX12_obstacleOf 30 = .ok (.iinc 2 1, 3) := dk_132 2 1 (dk_at dksX12_obstacleOf_1 6 rfl rfl)
theorem dX12_obstacleOf_33 : decode cX12_obstacleOf 33 = .ok (.goto (-27), 3) := dk_167 255 229 (dk_at dksX12_obstacleOf_1 9 rfl rfl)
theorem dX12_obstacleOf_36 : decode cX12_obstacleOf 36 = .ok (.iconst 1, 1) := dk_4 (dk_at dksX12_obstacleOf_1 12 rfl rfl)
theorem dX12_obstacleOf_37 : decode cX12_obstacleOf 37 = .ok (.ireturn, 1) := dk_172 (dk_at dksX12_obstacleOf_1 13 rfl rfl)
abbrev cX12_copy : ByteArray := prog_9_method_3_code
def yX12_copy : MethodName := ⟨RX12, "copy", "()LAnimationController$Machine;"⟩
def dkwX12_copy_5 : List UInt8 := [43, 42, 180, 0, 82, 181, 0, 82, 43, 176]
abbrev dktX12_copy_5 : List UInt8 := dkwX12_copy_5 ++ []
def dkwX12_copy_4 : List UInt8 := [42, 180, 0, 34, 190, 184, 0, 70, 43, 42, 180, 0, 76, 181, 0, 76, 43, 42, 180, 0, 79, 181, 0, 79]
abbrev dktX12_copy_4 : List UInt8 := dkwX12_copy_4 ++ dktX12_copy_5
def dkwX12_copy_3 : List UInt8 := [181, 0, 62, 42, 180, 0, 30, 43, 180, 0, 30, 182, 0, 66, 42, 180, 0, 34, 3, 43, 180, 0, 34, 3]
abbrev dktX12_copy_3 : List UInt8 := dkwX12_copy_3 ++ dktX12_copy_4
def dkwX12_copy_2 : List UInt8 := [181, 0, 23, 43, 42, 180, 0, 56, 181, 0, 56, 43, 42, 180, 0, 59, 181, 0, 59, 43, 42, 180, 0, 62]
abbrev dktX12_copy_2 : List UInt8 := dkwX12_copy_2 ++ dktX12_copy_3
def dkwX12_copy_1 : List UInt8 := [199, 0, 7, 1, 167, 0, 10, 42, 180, 0, 53, 182, 0, 49, 181, 0, 53, 43, 42, 180, 0, 23]
abbrev dktX12_copy_1 : List UInt8 := dkwX12_copy_1 ++ dktX12_copy_2
def dkwX12_copy_0 : List UInt8 := [187, 0, 10, 89, 42, 180, 0, 14, 42, 180, 0, 45, 182, 0, 49, 183, 0, 9, 76, 43, 42, 180, 0, 53]
abbrev dktX12_copy_0 : List UInt8 := dkwX12_copy_0 ++ dktX12_copy_1
theorem dksX12_copy_0 : cX12_copy.data.toList.drop 0 = dktX12_copy_0 := by decide +kernel
theorem dksX12_copy_1 : cX12_copy.data.toList.drop 24 = dktX12_copy_1 := dk_seg dksX12_copy_0 24 rfl rfl
theorem dksX12_copy_2 : cX12_copy.data.toList.drop 46 = dktX12_copy_2 := dk_seg dksX12_copy_1 22 rfl rfl
theorem dksX12_copy_3 : cX12_copy.data.toList.drop 70 = dktX12_copy_3 := dk_seg dksX12_copy_2 24 rfl rfl
theorem dksX12_copy_4 : cX12_copy.data.toList.drop 94 = dktX12_copy_4 := dk_seg dksX12_copy_3 24 rfl rfl
theorem dksX12_copy_5 : cX12_copy.data.toList.drop 118 = dktX12_copy_5 := dk_seg dksX12_copy_4 24 rfl rfl
theorem dX12_copy_0 : decode cX12_copy 0 = .ok (.new 10, 3) := dk_187 0 10 (dk_at dksX12_copy_0 0 rfl rfl)
theorem dX12_copy_3 : decode cX12_copy 3 = .ok (.dup, 1) := dk_89 (dk_at dksX12_copy_0 3 rfl rfl)
theorem dX12_copy_4 : decode cX12_copy 4 = .ok (.aload_n 0, 1) := dk_42 (dk_at dksX12_copy_0 4 rfl rfl)
theorem dX12_copy_5 : decode cX12_copy 5 = .ok (.getfield 14, 3) := dk_180 0 14 (dk_at dksX12_copy_0 5 rfl rfl)
theorem dX12_copy_8 : decode cX12_copy 8 = .ok (.aload_n 0, 1) := dk_42 (dk_at dksX12_copy_0 8 rfl rfl)
theorem dX12_copy_9 : decode cX12_copy 9 = .ok (.getfield 45, 3) := dk_180 0 45 (dk_at dksX12_copy_0 9 rfl rfl)
theorem dX12_copy_12 : decode cX12_copy 12 = .ok (.invokevirtual 49, 3) := dk_182 0 49 (dk_at dksX12_copy_0 12 rfl rfl)
theorem dX12_copy_15 : decode cX12_copy 15 = .ok (.invokespecial 9, 3) := dk_183 0 9 (dk_at dksX12_copy_0 15 rfl rfl)
theorem dX12_copy_18 : decode cX12_copy 18 = .ok (.astore_n 1, 1) := dk_76 (dk_at dksX12_copy_0 18 rfl rfl)
theorem dX12_copy_19 : decode cX12_copy 19 = .ok (.aload_n 1, 1) := dk_43 (dk_at dksX12_copy_0 19 rfl rfl)
theorem dX12_copy_20 : decode cX12_copy 20 = .ok (.aload_n 0, 1) := dk_42 (dk_at dksX12_copy_0 20 rfl rfl)
theorem dX12_copy_21 : decode cX12_copy 21 = .ok (.getfield 53, 3) := dk_180 0 53 (dk_at dksX12_copy_0 21 rfl rfl)
theorem dX12_copy_24 : decode cX12_copy 24 = .ok (.ifnonnull 7, 3) := dk_199 0 7 (dk_at dksX12_copy_1 0 rfl rfl)
theorem dX12_copy_27 : decode cX12_copy 27 = .ok (.aconst_null, 1) := dk_1 (dk_at dksX12_copy_1 3 rfl rfl)
theorem dX12_copy_28 : decode cX12_copy 28 = .ok (.goto 10, 3) := dk_167 0 10 (dk_at dksX12_copy_1 4 rfl rfl)
theorem dX12_copy_31 : decode cX12_copy 31 = .ok (.aload_n 0, 1) := dk_42 (dk_at dksX12_copy_1 7 rfl rfl)
theorem dX12_copy_32 : decode cX12_copy 32 = .ok (.getfield 53, 3) := dk_180 0 53 (dk_at dksX12_copy_1 8 rfl rfl)
theorem dX12_copy_35 : decode cX12_copy 35 = .ok (.invokevirtual 49, 3) := dk_182 0 49 (dk_at dksX12_copy_1 11 rfl rfl)
theorem dX12_copy_38 : decode cX12_copy 38 = .ok (.putfield 53, 3) := dk_181 0 53 (dk_at dksX12_copy_1 14 rfl rfl)
theorem dX12_copy_41 : decode cX12_copy 41 = .ok (.aload_n 1, 1) := dk_43 (dk_at dksX12_copy_1 17 rfl rfl)
theorem dX12_copy_42 : decode cX12_copy 42 = .ok (.aload_n 0, 1) := dk_42 (dk_at dksX12_copy_1 18 rfl rfl)
theorem dX12_copy_43 : decode cX12_copy 43 = .ok (.getfield 23, 3) := dk_180 0 23 (dk_at dksX12_copy_1 19 rfl rfl)
theorem dX12_copy_46 : decode cX12_copy 46 = .ok (.putfield 23, 3) := dk_181 0 23 (dk_at dksX12_copy_2 0 rfl rfl)
theorem dX12_copy_49 : decode cX12_copy 49 = .ok (.aload_n 1, 1) := dk_43 (dk_at dksX12_copy_2 3 rfl rfl)
theorem dX12_copy_50 : decode cX12_copy 50 = .ok (.aload_n 0, 1) := dk_42 (dk_at dksX12_copy_2 4 rfl rfl)
theorem dX12_copy_51 : decode cX12_copy 51 = .ok (.getfield 56, 3) := dk_180 0 56 (dk_at dksX12_copy_2 5 rfl rfl)
theorem dX12_copy_54 : decode cX12_copy 54 = .ok (.putfield 56, 3) := dk_181 0 56 (dk_at dksX12_copy_2 8 rfl rfl)
theorem dX12_copy_57 : decode cX12_copy 57 = .ok (.aload_n 1, 1) := dk_43 (dk_at dksX12_copy_2 11 rfl rfl)
theorem dX12_copy_58 : decode cX12_copy 58 = .ok (.aload_n 0, 1) := dk_42 (dk_at dksX12_copy_2 12 rfl rfl)
theorem dX12_copy_59 : decode cX12_copy 59 = .ok (.getfield 59, 3) := dk_180 0 59 (dk_at dksX12_copy_2 13 rfl rfl)
theorem dX12_copy_62 : decode cX12_copy 62 = .ok (.putfield 59, 3) := dk_181 0 59 (dk_at dksX12_copy_2 16 rfl rfl)
theorem dX12_copy_65 : decode cX12_copy 65 = .ok (.aload_n 1, 1) := dk_43 (dk_at dksX12_copy_2 19 rfl rfl)
theorem dX12_copy_66 : decode cX12_copy 66 = .ok (.aload_n 0, 1) := dk_42 (dk_at dksX12_copy_2 20 rfl rfl)
theorem dX12_copy_67 : decode cX12_copy 67 = .ok (.getfield 62, 3) := dk_180 0 62 (dk_at dksX12_copy_2 21 rfl rfl)
theorem dX12_copy_70 : decode cX12_copy 70 = .ok (.putfield 62, 3) := dk_181 0 62 (dk_at dksX12_copy_3 0 rfl rfl)
theorem dX12_copy_73 : decode cX12_copy 73 = .ok (.aload_n 0, 1) := dk_42 (dk_at dksX12_copy_3 3 rfl rfl)
theorem dX12_copy_74 : decode cX12_copy 74 = .ok (.getfield 30, 3) := dk_180 0 30 (dk_at dksX12_copy_3 4 rfl rfl)
theorem dX12_copy_77 : decode cX12_copy 77 = .ok (.aload_n 1, 1) := dk_43 (dk_at dksX12_copy_3 7 rfl rfl)
theorem dX12_copy_78 : decode cX12_copy 78 = .ok (.getfield 30, 3) := dk_180 0 30 (dk_at dksX12_copy_3 8 rfl rfl)
theorem dX12_copy_81 : decode cX12_copy 81 = .ok (.invokevirtual 66, 3) := dk_182 0 66 (dk_at dksX12_copy_3 11 rfl rfl)
theorem dX12_copy_84 : decode cX12_copy 84 = .ok (.aload_n 0, 1) := dk_42 (dk_at dksX12_copy_3 14 rfl rfl)
theorem dX12_copy_85 : decode cX12_copy 85 = .ok (.getfield 34, 3) := dk_180 0 34 (dk_at dksX12_copy_3 15 rfl rfl)
theorem dX12_copy_88 : decode cX12_copy 88 = .ok (.iconst 0, 1) := dk_3 (dk_at dksX12_copy_3 18 rfl rfl)
theorem dX12_copy_89 : decode cX12_copy 89 = .ok (.aload_n 1, 1) := dk_43 (dk_at dksX12_copy_3 19 rfl rfl)
theorem dX12_copy_90 : decode cX12_copy 90 = .ok (.getfield 34, 3) := dk_180 0 34 (dk_at dksX12_copy_3 20 rfl rfl)
theorem dX12_copy_93 : decode cX12_copy 93 = .ok (.iconst 0, 1) := dk_3 (dk_at dksX12_copy_3 23 rfl rfl)
theorem dX12_copy_94 : decode cX12_copy 94 = .ok (.aload_n 0, 1) := dk_42 (dk_at dksX12_copy_4 0 rfl rfl)
theorem dX12_copy_95 : decode cX12_copy 95 = .ok (.getfield 34, 3) := dk_180 0 34 (dk_at dksX12_copy_4 1 rfl rfl)
theorem dX12_copy_98 : decode cX12_copy 98 = .ok (.arraylength, 1) := dk_190 (dk_at dksX12_copy_4 4 rfl rfl)
theorem dX12_copy_99 : decode cX12_copy 99 = .ok (.invokestatic 70, 3) := dk_184 0 70 (dk_at dksX12_copy_4 5 rfl rfl)
theorem dX12_copy_102 : decode cX12_copy 102 = .ok (.aload_n 1, 1) := dk_43 (dk_at dksX12_copy_4 8 rfl rfl)
theorem dX12_copy_103 : decode cX12_copy 103 = .ok (.aload_n 0, 1) := dk_42 (dk_at dksX12_copy_4 9 rfl rfl)
theorem dX12_copy_104 : decode cX12_copy 104 = .ok (.getfield 76, 3) := dk_180 0 76 (dk_at dksX12_copy_4 10 rfl rfl)
theorem dX12_copy_107 : decode cX12_copy 107 = .ok (.putfield 76, 3) := dk_181 0 76 (dk_at dksX12_copy_4 13 rfl rfl)
theorem dX12_copy_110 : decode cX12_copy 110 = .ok (.aload_n 1, 1) := dk_43 (dk_at dksX12_copy_4 16 rfl rfl)
theorem dX12_copy_111 : decode cX12_copy 111 = .ok (.aload_n 0, 1) := dk_42 (dk_at dksX12_copy_4 17 rfl rfl)
theorem dX12_copy_112 : decode cX12_copy 112 = .ok (.getfield 79, 3) := dk_180 0 79 (dk_at dksX12_copy_4 18 rfl rfl)
theorem dX12_copy_115 : decode cX12_copy 115 = .ok (.putfield 79, 3) := dk_181 0 79 (dk_at dksX12_copy_4 21 rfl rfl)
theorem dX12_copy_118 : decode cX12_copy 118 = .ok (.aload_n 1, 1) := dk_43 (dk_at dksX12_copy_5 0 rfl rfl)
theorem dX12_copy_119 : decode cX12_copy 119 = .ok (.aload_n 0, 1) := dk_42 (dk_at dksX12_copy_5 1 rfl rfl)
theorem dX12_copy_120 : decode cX12_copy 120 = .ok (.getfield 82, 3) := dk_180 0 82 (dk_at dksX12_copy_5 2 rfl rfl)
theorem dX12_copy_123 : decode cX12_copy 123 = .ok (.putfield 82, 3) := dk_181 0 82 (dk_at dksX12_copy_5 5 rfl rfl)
theorem dX12_copy_126 : decode cX12_copy 126 = .ok (.aload_n 1, 1) := dk_43 (dk_at dksX12_copy_5 8 rfl rfl)
theorem dX12_copy_127 : decode cX12_copy 127 = .ok (.areturn, 1) := dk_176 (dk_at dksX12_copy_5 9 rfl rfl)
theorem q145 : (Jvm.Cond.initialized "AnimationController$Machine") ∈ lw_all := lw_g (lw_at lw_m1 38 rfl) rfl
theorem q524 : (Jvm.Cond.fieldLinkNest "AnimationController$Machine" (312 : Nat) "AnimationController$Pose" "clipNumbers" "[I" "AnimationController") ∈ lw_tbl := lw_at lw_m2 177 rfl
theorem q527 : (Jvm.Cond.fieldLinkNest "AnimationController$Machine" (315 : Nat) "AnimationController$Pose" "times" "[I" "AnimationController") ∈ lw_tbl := lw_at lw_m2 180 rfl
theorem q530 : (Jvm.Cond.fieldLinkNest "AnimationController$Machine" (311 : Nat) "AnimationController$Pose" "weights" "[I" "AnimationController") ∈ lw_tbl := lw_at lw_m2 183 rfl
theorem q533 : (Jvm.Cond.fieldLinkNest "AnimationController$Machine" (308 : Nat) "AnimationController$Pose" "many" "I" "AnimationController") ∈ lw_tbl := lw_at lw_m2 186 rfl
theorem q552 : (Jvm.Cond.fieldLinkNest "AnimationController$Machine" (259 : Nat) "AnimationController$Blend" "weights" "[I" "AnimationController") ∈ lw_tbl := lw_at lw_m2 205 rfl
theorem q617 : (Jvm.Cond.fieldLinkNest "AnimationController$Machine" (256 : Nat) "AnimationController" "clips" "Ljava/util/ArrayList;" "AnimationController") ∈ lw_tbl := lw_at lw_m3 30 rfl
theorem q621 : (Jvm.Cond.fieldLinkNest "AnimationController$Machine" (95 : Nat) "AnimationController" "transitions" "Ljava/util/ArrayList;" "AnimationController") ∈ lw_tbl := lw_at lw_m3 34 rfl
theorem q625 : (Jvm.Cond.fieldLinkNest "AnimationController$Machine" (264 : Nat) "AnimationController" "threshold" "I" "AnimationController") ∈ lw_tbl := lw_at lw_m3 38 rfl
theorem q628 : (Jvm.Cond.fieldLinkNest "AnimationController$Machine" (178 : Nat) "AnimationController" "pose" "LAnimationController$Pose;" "AnimationController") ∈ lw_tbl := lw_at lw_m3 41 rfl
theorem q630 : (Jvm.Cond.fieldLinkNest "AnimationController$Machine" (299 : Nat) "AnimationController" "parts" "LAnimationController$Blend;" "AnimationController") ∈ lw_tbl := lw_at lw_m3 43 rfl
theorem q632 : (Jvm.Cond.fieldLinkNest "AnimationController$Machine" (244 : Nat) "AnimationController" "events" "LAnimationController$Blend;" "AnimationController") ∈ lw_tbl := lw_at lw_m3 45 rfl
theorem q688 : (Jvm.Cond.instantiable "AnimationController$Machine" (15 : Nat)) ∈ lw_all := lw_g (lw_at lw_m3 101 rfl) rfl
theorem q691 : (Jvm.Cond.instanceMethod ({ cls := "AnimationController$Machine", name := "<init>", desc := "(LAnimationController;LAnimationController$State;)V" } : Jvm.MethodName)) ∈ lw_all := lw_g (lw_at lw_m3 104 rfl) rfl
theorem q692 : (Jvm.Cond.code ({ cls := "AnimationController$Machine", name := "<init>", desc := "(LAnimationController;LAnimationController$State;)V" } : Jvm.MethodName) prog_9_method_1_code (3 : Nat) (Option.none : Option Jvm.ClassFile.FieldType)) ∈ lw_all := lw_g (lw_at lw_m3 105 rfl) rfl
theorem q693 : (Jvm.Cond.classLink "AnimationController$Machine" (3 : Nat) "AnimationController$Track") ∈ lw_all := lw_g (lw_at lw_m3 106 rfl) rfl
theorem q695 : (Jvm.Cond.methodLink "AnimationController$Machine" (5 : Nat) ({ cls := "AnimationController$Track", name := "<init>", desc := "(LAnimationController$State;I)V" } : Jvm.MethodName)) ∈ lw_all := lw_g (lw_at lw_m3 108 rfl) rfl
theorem q700 : (Jvm.Cond.fieldLinkNest "AnimationController$Machine" (89 : Nat) "AnimationController$Track" "state" "LAnimationController$State;" "AnimationController") ∈ lw_tbl := lw_at lw_m3 113 rfl
theorem q704 : (Jvm.Cond.fieldLinkNest "AnimationController$Machine" (187 : Nat) "AnimationController$Track" "phase" "I" "AnimationController") ∈ lw_tbl := lw_at lw_m3 117 rfl
theorem q706 : (Jvm.Cond.fieldLinkNest "AnimationController$Machine" (272 : Nat) "AnimationController$Track" "isFresh" "Z" "AnimationController") ∈ lw_tbl := lw_at lw_m3 119 rfl
theorem q719 : (Jvm.Cond.methodLink "AnimationController$Machine" (9 : Nat) ({ cls := "AnimationController$Machine", name := "<init>", desc := "(LAnimationController;LAnimationController$Track;)V" } : Jvm.MethodName)) ∈ lw_all := lw_g (lw_at lw_m3 132 rfl) rfl
theorem q720 : (Jvm.Cond.instanceMethod ({ cls := "AnimationController$Machine", name := "<init>", desc := "(LAnimationController;LAnimationController$Track;)V" } : Jvm.MethodName)) ∈ lw_all := lw_g (lw_at lw_m3 133 rfl) rfl
theorem q721 : (Jvm.Cond.code ({ cls := "AnimationController$Machine", name := "<init>", desc := "(LAnimationController;LAnimationController$Track;)V" } : Jvm.MethodName) prog_9_method_2_code (3 : Nat) (Option.none : Option Jvm.ClassFile.FieldType)) ∈ lw_all := lw_g (lw_at lw_m3 134 rfl) rfl
theorem q722 : (Jvm.Cond.methodLink "AnimationController$Machine" (18 : Nat) ({ cls := "java/lang/Object", name := "<init>", desc := "()V" } : Jvm.MethodName)) ∈ lw_all := lw_g (lw_at lw_m3 135 rfl) rfl
theorem q723 : (Jvm.Cond.classLink "AnimationController$Machine" (27 : Nat) "AnimationController$Pose") ∈ lw_all := lw_g (lw_at lw_m3 136 rfl) rfl
theorem q724 : (Jvm.Cond.methodLinkNest "AnimationController$Machine" (29 : Nat) ({ cls := "AnimationController$Pose", name := "<init>", desc := "()V" } : Jvm.MethodName) "AnimationController") ∈ lw_tbl := lw_at lw_m3 137 rfl
theorem q725 : (Jvm.Cond.fieldLink "AnimationController$Machine" (45 : Nat) "AnimationController$Machine" "source" "LAnimationController$Track;") ∈ lw_all := lw_g (lw_at lw_m3 138 rfl) rfl
theorem q727 : (Jvm.Cond.fieldLink "AnimationController$Machine" (53 : Nat) "AnimationController$Machine" "target" "LAnimationController$Track;") ∈ lw_all := lw_g (lw_at lw_m3 140 rfl) rfl
theorem q729 : (Jvm.Cond.fieldLink "AnimationController$Machine" (23 : Nat) "AnimationController$Machine" "transition" "I") ∈ lw_all := lw_g (lw_at lw_m3 142 rfl) rfl
theorem q731 : (Jvm.Cond.fieldLink "AnimationController$Machine" (56 : Nat) "AnimationController$Machine" "elapsed" "I") ∈ lw_all := lw_g (lw_at lw_m3 144 rfl) rfl
theorem q733 : (Jvm.Cond.fieldLink "AnimationController$Machine" (59 : Nat) "AnimationController$Machine" "interruptions" "I") ∈ lw_all := lw_g (lw_at lw_m3 146 rfl) rfl
theorem q734 : (Jvm.Cond.fieldLink "AnimationController$Machine" (62 : Nat) "AnimationController$Machine" "isFrozen" "Z") ∈ lw_all := lw_g (lw_at lw_m3 147 rfl) rfl
theorem q736 : (Jvm.Cond.fieldLink "AnimationController$Machine" (30 : Nat) "AnimationController$Machine" "frozen" "LAnimationController$Pose;") ∈ lw_all := lw_g (lw_at lw_m3 149 rfl) rfl
theorem q737 : (Jvm.Cond.fieldLink "AnimationController$Machine" (34 : Nat) "AnimationController$Machine" "log" "[I") ∈ lw_all := lw_g (lw_at lw_m3 150 rfl) rfl
theorem q739 : (Jvm.Cond.fieldLink "AnimationController$Machine" (76 : Nat) "AnimationController$Machine" "logged" "I") ∈ lw_all := lw_g (lw_at lw_m3 152 rfl) rfl
theorem q741 : (Jvm.Cond.fieldLink "AnimationController$Machine" (79 : Nat) "AnimationController$Machine" "fired" "I") ∈ lw_all := lw_g (lw_at lw_m3 154 rfl) rfl
theorem q743 : (Jvm.Cond.fieldLink "AnimationController$Machine" (82 : Nat) "AnimationController$Machine" "ticks" "I") ∈ lw_all := lw_g (lw_at lw_m3 156 rfl) rfl
theorem q745 : (Jvm.Cond.fieldLink "AnimationController$Machine" (38 : Nat) "AnimationController$Machine" "candidates" "[I") ∈ lw_all := lw_g (lw_at lw_m3 158 rfl) rfl
theorem q746 : (Jvm.Cond.fieldLink "AnimationController$Machine" (41 : Nat) "AnimationController$Machine" "bySource" "[Z") ∈ lw_all := lw_g (lw_at lw_m3 159 rfl) rfl
theorem q747 : (Jvm.Cond.fieldLink "AnimationController$Machine" (114 : Nat) "AnimationController$Machine" "manyCandidates" "I") ∈ lw_all := lw_g (lw_at lw_m3 160 rfl) rfl
theorem q748 : (Jvm.Cond.fieldLink "AnimationController$Machine" (14 : Nat) "AnimationController$Machine" "this$0" "LAnimationController;") ∈ lw_all := lw_g (lw_at lw_m3 161 rfl) rfl
theorem q749 : (Jvm.Cond.lays "AnimationController$Machine" "AnimationController$Machine" "source" "LAnimationController$Track;") ∈ lw_all := lw_g (lw_at lw_m3 162 rfl) rfl
theorem q750 : (Jvm.Cond.soleField "AnimationController$Machine" "source") ∈ lw_all := lw_g (lw_at lw_m3 163 rfl) rfl
theorem q751 : (Jvm.Cond.lays "AnimationController$Machine" "AnimationController$Machine" "target" "LAnimationController$Track;") ∈ lw_all := lw_g (lw_at lw_m3 164 rfl) rfl
theorem q752 : (Jvm.Cond.soleField "AnimationController$Machine" "target") ∈ lw_all := lw_g (lw_at lw_m3 165 rfl) rfl
theorem q753 : (Jvm.Cond.lays "AnimationController$Machine" "AnimationController$Machine" "transition" "I") ∈ lw_all := lw_g (lw_at lw_m3 166 rfl) rfl
theorem q754 : (Jvm.Cond.soleField "AnimationController$Machine" "transition") ∈ lw_all := lw_g (lw_at lw_m3 167 rfl) rfl
theorem q755 : (Jvm.Cond.lays "AnimationController$Machine" "AnimationController$Machine" "elapsed" "I") ∈ lw_all := lw_g (lw_at lw_m3 168 rfl) rfl
theorem q756 : (Jvm.Cond.soleField "AnimationController$Machine" "elapsed") ∈ lw_all := lw_g (lw_at lw_m3 169 rfl) rfl
theorem q757 : (Jvm.Cond.lays "AnimationController$Machine" "AnimationController$Machine" "interruptions" "I") ∈ lw_all := lw_g (lw_at lw_m3 170 rfl) rfl
theorem q758 : (Jvm.Cond.soleField "AnimationController$Machine" "interruptions") ∈ lw_all := lw_g (lw_at lw_m3 171 rfl) rfl
theorem q759 : (Jvm.Cond.lays "AnimationController$Machine" "AnimationController$Machine" "isFrozen" "Z") ∈ lw_all := lw_g (lw_at lw_m3 172 rfl) rfl
theorem q760 : (Jvm.Cond.soleField "AnimationController$Machine" "isFrozen") ∈ lw_all := lw_g (lw_at lw_m3 173 rfl) rfl
theorem q761 : (Jvm.Cond.laysFinal "AnimationController$Machine" "AnimationController$Machine" "frozen" "LAnimationController$Pose;") ∈ lw_all := lw_g (lw_at lw_m3 174 rfl) rfl
theorem q762 : (Jvm.Cond.soleField "AnimationController$Machine" "frozen") ∈ lw_all := lw_g (lw_at lw_m3 175 rfl) rfl
theorem q763 : (Jvm.Cond.laysFinal "AnimationController$Machine" "AnimationController$Machine" "log" "[I") ∈ lw_all := lw_g (lw_at lw_m3 176 rfl) rfl
theorem q764 : (Jvm.Cond.soleField "AnimationController$Machine" "log") ∈ lw_all := lw_g (lw_at lw_m3 177 rfl) rfl
theorem q765 : (Jvm.Cond.lays "AnimationController$Machine" "AnimationController$Machine" "logged" "I") ∈ lw_all := lw_g (lw_at lw_m3 178 rfl) rfl
theorem q766 : (Jvm.Cond.soleField "AnimationController$Machine" "logged") ∈ lw_all := lw_g (lw_at lw_m3 179 rfl) rfl
theorem q767 : (Jvm.Cond.lays "AnimationController$Machine" "AnimationController$Machine" "fired" "I") ∈ lw_all := lw_g (lw_at lw_m3 180 rfl) rfl
theorem q768 : (Jvm.Cond.soleField "AnimationController$Machine" "fired") ∈ lw_all := lw_g (lw_at lw_m3 181 rfl) rfl
theorem q769 : (Jvm.Cond.lays "AnimationController$Machine" "AnimationController$Machine" "ticks" "I") ∈ lw_all := lw_g (lw_at lw_m3 182 rfl) rfl
theorem q770 : (Jvm.Cond.soleField "AnimationController$Machine" "ticks") ∈ lw_all := lw_g (lw_at lw_m3 183 rfl) rfl
theorem q771 : (Jvm.Cond.laysFinal "AnimationController$Machine" "AnimationController$Machine" "candidates" "[I") ∈ lw_all := lw_g (lw_at lw_m3 184 rfl) rfl
theorem q772 : (Jvm.Cond.soleField "AnimationController$Machine" "candidates") ∈ lw_all := lw_g (lw_at lw_m3 185 rfl) rfl
theorem q773 : (Jvm.Cond.laysFinal "AnimationController$Machine" "AnimationController$Machine" "bySource" "[Z") ∈ lw_all := lw_g (lw_at lw_m3 186 rfl) rfl
theorem q774 : (Jvm.Cond.soleField "AnimationController$Machine" "bySource") ∈ lw_all := lw_g (lw_at lw_m3 187 rfl) rfl
theorem q775 : (Jvm.Cond.lays "AnimationController$Machine" "AnimationController$Machine" "manyCandidates" "I") ∈ lw_all := lw_g (lw_at lw_m3 188 rfl) rfl
theorem q776 : (Jvm.Cond.soleField "AnimationController$Machine" "manyCandidates") ∈ lw_all := lw_g (lw_at lw_m3 189 rfl) rfl
theorem q777 : (Jvm.Cond.laysFinal "AnimationController$Machine" "AnimationController$Machine" "this$0" "LAnimationController;") ∈ lw_all := lw_g (lw_at lw_m3 190 rfl) rfl
theorem q778 : (Jvm.Cond.soleField "AnimationController$Machine" "this$0") ∈ lw_all := lw_g (lw_at lw_m3 191 rfl) rfl
theorem q779 : (Jvm.Cond.superclass "AnimationController$Machine" "java/lang/Object") ∈ lw_all := lw_g (lw_at lw_m3 192 rfl) rfl
theorem q790 : (Jvm.Cond.instanceMethod ({ cls := "AnimationController$Machine", name := "isIdle", desc := "()Z" } : Jvm.MethodName)) ∈ lw_all := lw_g (lw_at lw_m3 203 rfl) rfl
theorem q791 : (Jvm.Cond.selects "AnimationController$Machine" ({ cls := "AnimationController$Machine", name := "isIdle", desc := "()Z" } : Jvm.MethodName) ({ cls := "AnimationController$Machine", name := "isIdle", desc := "()Z" } : Jvm.MethodName)) ∈ lw_all := lw_g (lw_at lw_m3 204 rfl) rfl
theorem q792 : (Jvm.Cond.code ({ cls := "AnimationController$Machine", name := "isIdle", desc := "()Z" } : Jvm.MethodName) prog_9_method_4_code (1 : Nat) (Option.some Jvm.ClassFile.FieldType.boolean)) ∈ lw_all := lw_g (lw_at lw_m3 205 rfl) rfl
theorem q814 : (Jvm.Cond.instanceMethod ({ cls := "AnimationController$Machine", name := "poseNow", desc := "()V" } : Jvm.MethodName)) ∈ lw_all := lw_g (lw_at lw_m3 227 rfl) rfl
theorem q815 : (Jvm.Cond.selects "AnimationController$Machine" ({ cls := "AnimationController$Machine", name := "poseNow", desc := "()V" } : Jvm.MethodName) ({ cls := "AnimationController$Machine", name := "poseNow", desc := "()V" } : Jvm.MethodName)) ∈ lw_all := lw_g (lw_at lw_m3 228 rfl) rfl
theorem q816 : (Jvm.Cond.code ({ cls := "AnimationController$Machine", name := "poseNow", desc := "()V" } : Jvm.MethodName) prog_9_method_26_code (2 : Nat) (Option.none : Option Jvm.ClassFile.FieldType)) ∈ lw_all := lw_g (lw_at lw_m3 229 rfl) rfl
theorem q817 : (Jvm.Cond.methodLink "AnimationController$Machine" (85 : Nat) ({ cls := "AnimationController$Machine", name := "isIdle", desc := "()Z" } : Jvm.MethodName)) ∈ lw_all := lw_g (lw_at lw_m3 230 rfl) rfl
theorem q818 : (Jvm.Cond.methodLink "AnimationController$Machine" (223 : Nat) ({ cls := "AnimationController$Machine", name := "targetShare", desc := "()I" } : Jvm.MethodName)) ∈ lw_all := lw_g (lw_at lw_m3 231 rfl) rfl
theorem q819 : (Jvm.Cond.instanceMethod ({ cls := "AnimationController$Machine", name := "targetShare", desc := "()I" } : Jvm.MethodName)) ∈ lw_all := lw_g (lw_at lw_m3 232 rfl) rfl
theorem q820 : (Jvm.Cond.selects "AnimationController$Machine" ({ cls := "AnimationController$Machine", name := "targetShare", desc := "()I" } : Jvm.MethodName) ({ cls := "AnimationController$Machine", name := "targetShare", desc := "()I" } : Jvm.MethodName)) ∈ lw_all := lw_g (lw_at lw_m3 233 rfl) rfl
theorem q821 : (Jvm.Cond.code ({ cls := "AnimationController$Machine", name := "targetShare", desc := "()I" } : Jvm.MethodName) prog_9_method_6_code (1 : Nat) (Option.some Jvm.ClassFile.FieldType.int)) ∈ lw_all := lw_g (lw_at lw_m3 234 rfl) rfl
theorem q822 : (Jvm.Cond.constantLong "AnimationController$Machine" (93 : Nat) (1000000 : Int64)) ∈ lw_all := lw_g (lw_at lw_m3 235 rfl) rfl
theorem q823 : (Jvm.Cond.methodLink "AnimationController$Machine" (99 : Nat) ({ cls := "java/util/ArrayList", name := "get", desc := "(I)Ljava/lang/Object;" } : Jvm.MethodName)) ∈ lw_all := lw_g (lw_at lw_m3 236 rfl) rfl
theorem q824 : (Jvm.Cond.classLink "AnimationController$Machine" (105 : Nat) "AnimationController$Transition") ∈ lw_all := lw_g (lw_at lw_m3 237 rfl) rfl
theorem q825 : (Jvm.Cond.methodLinkNest "AnimationController$Machine" (110 : Nat) ({ cls := "AnimationController", name := "share", desc := "(JJJ)I" } : Jvm.MethodName) "AnimationController") ∈ lw_tbl := lw_at lw_m3 238 rfl
theorem q828 : (Jvm.Cond.constant "AnimationController$Machine" (230 : Nat) (1000000 : Int32)) ∈ lw_all := lw_g (lw_at lw_m4 1 rfl) rfl
theorem q829 : (Jvm.Cond.methodLink "AnimationController$Machine" (318 : Nat) ({ cls := "AnimationController$Machine", name := "addFrozen", desc := "(I)V" } : Jvm.MethodName)) ∈ lw_all := lw_g (lw_at lw_m4 2 rfl) rfl
theorem q830 : (Jvm.Cond.privateMethod ({ cls := "AnimationController$Machine", name := "addFrozen", desc := "(I)V" } : Jvm.MethodName)) ∈ lw_tbl := lw_at lw_m4 3 rfl
theorem q831 : (Jvm.Cond.instanceMethod ({ cls := "AnimationController$Machine", name := "addFrozen", desc := "(I)V" } : Jvm.MethodName)) ∈ lw_all := lw_g (lw_at lw_m4 4 rfl) rfl
theorem q832 : (Jvm.Cond.code ({ cls := "AnimationController$Machine", name := "addFrozen", desc := "(I)V" } : Jvm.MethodName) prog_9_method_25_code (5 : Nat) (Option.none : Option Jvm.ClassFile.FieldType)) ∈ lw_all := lw_g (lw_at lw_m4 5 rfl) rfl
theorem q833 : (Jvm.Cond.methodLink "AnimationController$Machine" (305 : Nat) ({ cls := "AnimationController$Pose", name := "add", desc := "(III)V" } : Jvm.MethodName)) ∈ lw_all := lw_g (lw_at lw_m4 6 rfl) rfl
theorem q844 : (Jvm.Cond.methodLink "AnimationController$Machine" (321 : Nat) ({ cls := "AnimationController$Machine", name := "addPose", desc := "(LAnimationController$Track;I)V" } : Jvm.MethodName)) ∈ lw_all := lw_g (lw_at lw_m4 17 rfl) rfl
theorem q845 : (Jvm.Cond.privateMethod ({ cls := "AnimationController$Machine", name := "addPose", desc := "(LAnimationController$Track;I)V" } : Jvm.MethodName)) ∈ lw_tbl := lw_at lw_m4 18 rfl
theorem q846 : (Jvm.Cond.instanceMethod ({ cls := "AnimationController$Machine", name := "addPose", desc := "(LAnimationController$Track;I)V" } : Jvm.MethodName)) ∈ lw_all := lw_g (lw_at lw_m4 19 rfl) rfl
theorem q847 : (Jvm.Cond.code ({ cls := "AnimationController$Machine", name := "addPose", desc := "(LAnimationController$Track;I)V" } : Jvm.MethodName) prog_9_method_24_code (4 : Nat) (Option.none : Option Jvm.ClassFile.FieldType)) ∈ lw_all := lw_g (lw_at lw_m4 20 rfl) rfl
theorem q848 : (Jvm.Cond.methodLinkNest "AnimationController$Machine" (252 : Nat) ({ cls := "AnimationController", name := "blend", desc := "(LAnimationController$Blend;LAnimationController$Node;I)V" } : Jvm.MethodName) "AnimationController") ∈ lw_tbl := lw_at lw_m4 21 rfl
theorem q871 : (Jvm.Cond.methodLink "AnimationController$Machine" (120 : Nat) ({ cls := "java/util/ArrayList", name := "size", desc := "()I" } : Jvm.MethodName)) ∈ lw_all := lw_g (lw_at lw_m4 44 rfl) rfl
theorem q872 : (Jvm.Cond.classLink "AnimationController$Machine" (267 : Nat) "AnimationController$Clip") ∈ lw_all := lw_g (lw_at lw_m4 45 rfl) rfl
theorem q873 : (Jvm.Cond.methodLink "AnimationController$Machine" (302 : Nat) ({ cls := "AnimationController$Clip", name := "timeAt", desc := "(I)I" } : Jvm.MethodName)) ∈ lw_all := lw_g (lw_at lw_m4 46 rfl) rfl
theorem q1047 : (Jvm.Cond.fieldLinkNest "AnimationController$Machine" (124 : Nat) "AnimationController$Transition" "from" "LAnimationController$State;" "AnimationController") ∈ lw_tbl := lw_at lw_m4 220 rfl
theorem q1051 : (Jvm.Cond.fieldLinkNest "AnimationController$Machine" (127 : Nat) "AnimationController$Transition" "to" "LAnimationController$State;" "AnimationController") ∈ lw_tbl := lw_at lw_m4 224 rfl
theorem q1054 : (Jvm.Cond.fieldLinkNest "AnimationController$Machine" (107 : Nat) "AnimationController$Transition" "duration" "I" "AnimationController") ∈ lw_tbl := lw_at lw_m4 227 rfl
theorem q1057 : (Jvm.Cond.fieldLinkNest "AnimationController$Machine" (145 : Nat) "AnimationController$Transition" "exit" "I" "AnimationController") ∈ lw_tbl := lw_at lw_m4 230 rfl
theorem q1060 : (Jvm.Cond.fieldLinkNest "AnimationController$Machine" (190 : Nat) "AnimationController$Transition" "start" "I" "AnimationController") ∈ lw_tbl := lw_at lw_m4 233 rfl
theorem q1062 : (Jvm.Cond.fieldLinkNest "AnimationController$Machine" (142 : Nat) "AnimationController$Transition" "mode" "I" "AnimationController") ∈ lw_tbl := lw_at lw_m4 235 rfl
theorem q1065 : (Jvm.Cond.fieldLinkNest "AnimationController$Machine" (117 : Nat) "AnimationController$Transition" "isOrdered" "Z" "AnimationController") ∈ lw_tbl := lw_at lw_m4 238 rfl
theorem q1122 : (Jvm.Cond.selects "AnimationController$Machine" ({ cls := "java/lang/Object", name := "getClass", desc := "()Ljava/lang/Class;" } : Jvm.MethodName) ({ cls := "java/lang/Object", name := "getClass", desc := "()Ljava/lang/Class;" } : Jvm.MethodName)) ∈ lw_all := lw_g (lw_at lw_m5 55 rfl) rfl
theorem q1282 : (Jvm.Cond.selects "AnimationController$Machine" ({ cls := "java/lang/Object", name := "hashCode", desc := "()I" } : Jvm.MethodName) ({ cls := "java/lang/Object", name := "hashCode", desc := "()I" } : Jvm.MethodName)) ∈ lw_all := lw_g (lw_at lw_m5 215 rfl) rfl
theorem q1379 : (Jvm.Cond.selects "AnimationController$Machine" ({ cls := "java/lang/Object", name := "equals", desc := "(Ljava/lang/Object;)Z" } : Jvm.MethodName) ({ cls := "java/lang/Object", name := "equals", desc := "(Ljava/lang/Object;)Z" } : Jvm.MethodName)) ∈ lw_all := lw_g (lw_at lw_m6 72 rfl) rfl
theorem q2025 : (Jvm.Cond.fieldLinkNest "AnimationController$Machine" (291 : Nat) "AnimationController$Clip" "number" "I" "AnimationController") ∈ lw_tbl := lw_at lw_m8 238 rfl
theorem q2029 : (Jvm.Cond.fieldLinkNest "AnimationController$Machine" (282 : Nat) "AnimationController$Clip" "length" "I" "AnimationController") ∈ lw_tbl := lw_at lw_m9 2 rfl
theorem q2032 : (Jvm.Cond.fieldLinkNest "AnimationController$Machine" (275 : Nat) "AnimationController$Clip" "events" "Ljava/util/ArrayList;" "AnimationController") ∈ lw_tbl := lw_at lw_m9 5 rfl
theorem q2060 : (Jvm.Cond.fieldLinkNest "AnimationController$Machine" (279 : Nat) "AnimationController$Event" "time" "I" "AnimationController") ∈ lw_tbl := lw_at lw_m9 33 rfl
theorem q2062 : (Jvm.Cond.fieldLinkNest "AnimationController$Machine" (288 : Nat) "AnimationController$Event" "id" "I" "AnimationController") ∈ lw_tbl := lw_at lw_m9 35 rfl
theorem q2207 : (Jvm.Cond.fieldLinkNest "AnimationController$Machine" (294 : Nat) "AnimationController$State" "number" "I" "AnimationController") ∈ lw_tbl := lw_at lw_m9 180 rfl
theorem q2209 : (Jvm.Cond.fieldLinkNest "AnimationController$Machine" (248 : Nat) "AnimationController$State" "motion" "LAnimationController$Node;" "AnimationController") ∈ lw_tbl := lw_at lw_m9 182 rfl
theorem q2212 : (Jvm.Cond.fieldLinkNest "AnimationController$Machine" (208 : Nat) "AnimationController$State" "speed" "I" "AnimationController") ∈ lw_tbl := lw_at lw_m9 185 rfl
theorem q2215 : (Jvm.Cond.fieldLinkNest "AnimationController$Machine" (193 : Nat) "AnimationController$State" "loops" "Z" "AnimationController") ∈ lw_tbl := lw_at lw_m9 188 rfl
theorem q2329 : (Jvm.Cond.instanceMethod ({ cls := "AnimationController$Machine", name := "run", desc := "()I" } : Jvm.MethodName)) ∈ lw_all := lw_g (lw_at lw_m10 62 rfl) rfl
theorem q2330 : (Jvm.Cond.selects "AnimationController$Machine" ({ cls := "AnimationController$Machine", name := "run", desc := "()I" } : Jvm.MethodName) ({ cls := "AnimationController$Machine", name := "run", desc := "()I" } : Jvm.MethodName)) ∈ lw_all := lw_g (lw_at lw_m10 63 rfl) rfl
theorem q2331 : (Jvm.Cond.code ({ cls := "AnimationController$Machine", name := "run", desc := "()I" } : Jvm.MethodName) prog_9_method_20_code (5 : Nat) (Option.some Jvm.ClassFile.FieldType.int)) ∈ lw_all := lw_g (lw_at lw_m10 64 rfl) rfl
theorem q2332 : (Jvm.Cond.methodLink "AnimationController$Machine" (231 : Nat) ({ cls := "AnimationController$Machine", name := "choose", desc := "()Z" } : Jvm.MethodName)) ∈ lw_all := lw_g (lw_at lw_m10 65 rfl) rfl
theorem q2333 : (Jvm.Cond.privateMethod ({ cls := "AnimationController$Machine", name := "choose", desc := "()Z" } : Jvm.MethodName)) ∈ lw_tbl := lw_at lw_m10 66 rfl
theorem q2334 : (Jvm.Cond.instanceMethod ({ cls := "AnimationController$Machine", name := "choose", desc := "()Z" } : Jvm.MethodName)) ∈ lw_all := lw_g (lw_at lw_m10 67 rfl) rfl
theorem q2335 : (Jvm.Cond.code ({ cls := "AnimationController$Machine", name := "choose", desc := "()Z" } : Jvm.MethodName) prog_9_method_13_code (2 : Nat) (Option.some Jvm.ClassFile.FieldType.boolean)) ∈ lw_all := lw_g (lw_at lw_m10 68 rfl) rfl
theorem q2336 : (Jvm.Cond.methodLink "AnimationController$Machine" (161 : Nat) ({ cls := "AnimationController$Machine", name := "listCandidates", desc := "()V" } : Jvm.MethodName)) ∈ lw_all := lw_g (lw_at lw_m10 69 rfl) rfl
theorem q2337 : (Jvm.Cond.instanceMethod ({ cls := "AnimationController$Machine", name := "listCandidates", desc := "()V" } : Jvm.MethodName)) ∈ lw_all := lw_g (lw_at lw_m10 70 rfl) rfl
theorem q2338 : (Jvm.Cond.selects "AnimationController$Machine" ({ cls := "AnimationController$Machine", name := "listCandidates", desc := "()V" } : Jvm.MethodName) ({ cls := "AnimationController$Machine", name := "listCandidates", desc := "()V" } : Jvm.MethodName)) ∈ lw_all := lw_g (lw_at lw_m10 71 rfl) rfl
theorem q2339 : (Jvm.Cond.code ({ cls := "AnimationController$Machine", name := "listCandidates", desc := "()V" } : Jvm.MethodName) prog_9_method_9_code (2 : Nat) (Option.none : Option Jvm.ClassFile.FieldType)) ∈ lw_all := lw_g (lw_at lw_m10 72 rfl) rfl
theorem q2340 : (Jvm.Cond.methodLink "AnimationController$Machine" (138 : Nat) ({ cls := "AnimationController$Machine", name := "list", desc := "(LAnimationController$State;Z)V" } : Jvm.MethodName)) ∈ lw_all := lw_g (lw_at lw_m10 73 rfl) rfl
theorem q2341 : (Jvm.Cond.privateMethod ({ cls := "AnimationController$Machine", name := "list", desc := "(LAnimationController$State;Z)V" } : Jvm.MethodName)) ∈ lw_tbl := lw_at lw_m10 74 rfl
theorem q2342 : (Jvm.Cond.instanceMethod ({ cls := "AnimationController$Machine", name := "list", desc := "(LAnimationController$State;Z)V" } : Jvm.MethodName)) ∈ lw_all := lw_g (lw_at lw_m10 75 rfl) rfl
theorem q2343 : (Jvm.Cond.code ({ cls := "AnimationController$Machine", name := "list", desc := "(LAnimationController$State;Z)V" } : Jvm.MethodName) prog_9_method_8_code (8 : Nat) (Option.none : Option Jvm.ClassFile.FieldType)) ∈ lw_all := lw_g (lw_at lw_m10 76 rfl) rfl
theorem q2344 : (Jvm.Cond.methodLink "AnimationController$Machine" (130 : Nat) ({ cls := "AnimationController$Machine", name := "destination", desc := "()LAnimationController$State;" } : Jvm.MethodName)) ∈ lw_all := lw_g (lw_at lw_m10 77 rfl) rfl
theorem q2345 : (Jvm.Cond.instanceMethod ({ cls := "AnimationController$Machine", name := "destination", desc := "()LAnimationController$State;" } : Jvm.MethodName)) ∈ lw_all := lw_g (lw_at lw_m10 78 rfl) rfl
theorem q2346 : (Jvm.Cond.selects "AnimationController$Machine" ({ cls := "AnimationController$Machine", name := "destination", desc := "()LAnimationController$State;" } : Jvm.MethodName) ({ cls := "AnimationController$Machine", name := "destination", desc := "()LAnimationController$State;" } : Jvm.MethodName)) ∈ lw_all := lw_g (lw_at lw_m10 79 rfl) rfl
theorem q2347 : (Jvm.Cond.code ({ cls := "AnimationController$Machine", name := "destination", desc := "()LAnimationController$State;" } : Jvm.MethodName) prog_9_method_5_code (1 : Nat) (Option.some (Jvm.ClassFile.FieldType.object "AnimationController$State"))) ∈ lw_all := lw_g (lw_at lw_m10 80 rfl) rfl
theorem q2348 : (Jvm.Cond.methodLink "AnimationController$Machine" (134 : Nat) ({ cls := "AnimationController$Machine", name := "isCandidate", desc := "(I)Z" } : Jvm.MethodName)) ∈ lw_all := lw_g (lw_at lw_m10 81 rfl) rfl
theorem q2349 : (Jvm.Cond.privateMethod ({ cls := "AnimationController$Machine", name := "isCandidate", desc := "(I)Z" } : Jvm.MethodName)) ∈ lw_tbl := lw_at lw_m10 82 rfl
theorem q2350 : (Jvm.Cond.instanceMethod ({ cls := "AnimationController$Machine", name := "isCandidate", desc := "(I)Z" } : Jvm.MethodName)) ∈ lw_all := lw_g (lw_at lw_m10 83 rfl) rfl
theorem q2351 : (Jvm.Cond.code ({ cls := "AnimationController$Machine", name := "isCandidate", desc := "(I)Z" } : Jvm.MethodName) prog_9_method_7_code (4 : Nat) (Option.some Jvm.ClassFile.FieldType.boolean)) ∈ lw_all := lw_g (lw_at lw_m10 84 rfl) rfl
theorem q2352 : (Jvm.Cond.methodLink "AnimationController$Machine" (164 : Nat) ({ cls := "AnimationController$Machine", name := "obstacle", desc := "(I)I" } : Jvm.MethodName)) ∈ lw_all := lw_g (lw_at lw_m10 85 rfl) rfl
theorem q2353 : (Jvm.Cond.instanceMethod ({ cls := "AnimationController$Machine", name := "obstacle", desc := "(I)I" } : Jvm.MethodName)) ∈ lw_all := lw_g (lw_at lw_m10 86 rfl) rfl
theorem q2354 : (Jvm.Cond.selects "AnimationController$Machine" ({ cls := "AnimationController$Machine", name := "obstacle", desc := "(I)I" } : Jvm.MethodName) ({ cls := "AnimationController$Machine", name := "obstacle", desc := "(I)I" } : Jvm.MethodName)) ∈ lw_all := lw_g (lw_at lw_m10 87 rfl) rfl
theorem q2355 : (Jvm.Cond.code ({ cls := "AnimationController$Machine", name := "obstacle", desc := "(I)I" } : Jvm.MethodName) prog_9_method_11_code (4 : Nat) (Option.some Jvm.ClassFile.FieldType.int)) ∈ lw_all := lw_g (lw_at lw_m10 88 rfl) rfl
theorem q2356 : (Jvm.Cond.methodLink "AnimationController$Machine" (148 : Nat) ({ cls := "AnimationController$Machine", name := "trackOf", desc := "(I)LAnimationController$Track;" } : Jvm.MethodName)) ∈ lw_all := lw_g (lw_at lw_m10 89 rfl) rfl
theorem q2357 : (Jvm.Cond.privateMethod ({ cls := "AnimationController$Machine", name := "trackOf", desc := "(I)LAnimationController$Track;" } : Jvm.MethodName)) ∈ lw_tbl := lw_at lw_m10 90 rfl
theorem q2358 : (Jvm.Cond.instanceMethod ({ cls := "AnimationController$Machine", name := "trackOf", desc := "(I)LAnimationController$Track;" } : Jvm.MethodName)) ∈ lw_all := lw_g (lw_at lw_m10 91 rfl) rfl
theorem q2359 : (Jvm.Cond.code ({ cls := "AnimationController$Machine", name := "trackOf", desc := "(I)LAnimationController$Track;" } : Jvm.MethodName) prog_9_method_10_code (2 : Nat) (Option.some (Jvm.ClassFile.FieldType.object "AnimationController$Track"))) ∈ lw_all := lw_g (lw_at lw_m10 92 rfl) rfl
theorem q2360 : (Jvm.Cond.methodLink "AnimationController$Machine" (152 : Nat) ({ cls := "AnimationController$Track", name := "progress", desc := "()J" } : Jvm.MethodName)) ∈ lw_all := lw_g (lw_at lw_m10 93 rfl) rfl
theorem q2365 : (Jvm.Cond.constantLong "AnimationController$Machine" (156 : Nat) (10000 : Int64)) ∈ lw_all := lw_g (lw_at lw_m10 98 rfl) rfl
theorem q2366 : (Jvm.Cond.methodLink "AnimationController$Machine" (158 : Nat) ({ cls := "AnimationController$Transition", name := "failing", desc := "()I" } : Jvm.MethodName)) ∈ lw_all := lw_g (lw_at lw_m10 99 rfl) rfl
theorem q2378 : (Jvm.Cond.methodLink "AnimationController$Machine" (168 : Nat) ({ cls := "AnimationController$Machine", name := "take", desc := "(I)V" } : Jvm.MethodName)) ∈ lw_all := lw_g (lw_at lw_m10 111 rfl) rfl
theorem q2379 : (Jvm.Cond.privateMethod ({ cls := "AnimationController$Machine", name := "take", desc := "(I)V" } : Jvm.MethodName)) ∈ lw_tbl := lw_at lw_m10 112 rfl
theorem q2380 : (Jvm.Cond.instanceMethod ({ cls := "AnimationController$Machine", name := "take", desc := "(I)V" } : Jvm.MethodName)) ∈ lw_all := lw_g (lw_at lw_m10 113 rfl) rfl
theorem q2381 : (Jvm.Cond.code ({ cls := "AnimationController$Machine", name := "take", desc := "(I)V" } : Jvm.MethodName) prog_9_method_14_code (5 : Nat) (Option.none : Option Jvm.ClassFile.FieldType)) ∈ lw_all := lw_g (lw_at lw_m10 114 rfl) rfl
theorem q2382 : (Jvm.Cond.methodLink "AnimationController$Machine" (172 : Nat) ({ cls := "AnimationController$Transition", name := "resetTriggers", desc := "()V" } : Jvm.MethodName)) ∈ lw_all := lw_g (lw_at lw_m10 115 rfl) rfl
theorem q2386 : (Jvm.Cond.methodLink "AnimationController$Machine" (175 : Nat) ({ cls := "AnimationController$Machine", name := "poseNow", desc := "()V" } : Jvm.MethodName)) ∈ lw_all := lw_g (lw_at lw_m10 119 rfl) rfl
theorem q2387 : (Jvm.Cond.methodLink "AnimationController$Machine" (66 : Nat) ({ cls := "AnimationController$Pose", name := "copyTo", desc := "(LAnimationController$Pose;)V" } : Jvm.MethodName)) ∈ lw_all := lw_g (lw_at lw_m10 120 rfl) rfl
theorem q2392 : (Jvm.Cond.methodLink "AnimationController$Machine" (181 : Nat) ({ cls := "AnimationController$State", name := "isInGroupOf", desc := "(LAnimationController$State;)Z" } : Jvm.MethodName)) ∈ lw_all := lw_g (lw_at lw_m10 125 rfl) rfl
theorem q2396 : (Jvm.Cond.constant "AnimationController$Machine" (196 : Nat) (999999 : Int32)) ∈ lw_all := lw_g (lw_at lw_m10 129 rfl) rfl
theorem q2397 : (Jvm.Cond.methodLink "AnimationController$Machine" (197 : Nat) ({ cls := "java/lang/Math", name := "min", desc := "(II)I" } : Jvm.MethodName)) ∈ lw_all := lw_g (lw_at lw_m10 130 rfl) rfl
theorem q2398 : (Jvm.Cond.methodLink "AnimationController$Machine" (203 : Nat) ({ cls := "AnimationController$Machine", name := "end", desc := "()V" } : Jvm.MethodName)) ∈ lw_all := lw_g (lw_at lw_m10 131 rfl) rfl
theorem q2399 : (Jvm.Cond.privateMethod ({ cls := "AnimationController$Machine", name := "end", desc := "()V" } : Jvm.MethodName)) ∈ lw_tbl := lw_at lw_m10 132 rfl
theorem q2400 : (Jvm.Cond.instanceMethod ({ cls := "AnimationController$Machine", name := "end", desc := "()V" } : Jvm.MethodName)) ∈ lw_all := lw_g (lw_at lw_m10 133 rfl) rfl
theorem q2401 : (Jvm.Cond.code ({ cls := "AnimationController$Machine", name := "end", desc := "()V" } : Jvm.MethodName) prog_9_method_15_code (1 : Nat) (Option.none : Option Jvm.ClassFile.FieldType)) ∈ lw_all := lw_g (lw_at lw_m10 134 rfl) rfl
theorem q2402 : (Jvm.Cond.methodLink "AnimationController$Machine" (234 : Nat) ({ cls := "AnimationController$Machine", name := "advance", desc := "(LAnimationController$Track;)V" } : Jvm.MethodName)) ∈ lw_all := lw_g (lw_at lw_m10 135 rfl) rfl
theorem q2403 : (Jvm.Cond.privateMethod ({ cls := "AnimationController$Machine", name := "advance", desc := "(LAnimationController$Track;)V" } : Jvm.MethodName)) ∈ lw_tbl := lw_at lw_m10 136 rfl
theorem q2404 : (Jvm.Cond.instanceMethod ({ cls := "AnimationController$Machine", name := "advance", desc := "(LAnimationController$Track;)V" } : Jvm.MethodName)) ∈ lw_all := lw_g (lw_at lw_m10 137 rfl) rfl
theorem q2405 : (Jvm.Cond.code ({ cls := "AnimationController$Machine", name := "advance", desc := "(LAnimationController$Track;)V" } : Jvm.MethodName) prog_9_method_17_code (2 : Nat) (Option.none : Option Jvm.ClassFile.FieldType)) ∈ lw_all := lw_g (lw_at lw_m10 138 rfl) rfl
theorem q2406 : (Jvm.Cond.methodLinkNest "AnimationController$Machine" (211 : Nat) ({ cls := "AnimationController", name := "lengthOf", desc := "(LAnimationController$State;)I" } : Jvm.MethodName) "AnimationController") ∈ lw_tbl := lw_at lw_m10 139 rfl
theorem q2423 : (Jvm.Cond.methodLink "AnimationController$Machine" (215 : Nat) ({ cls := "AnimationController$Machine", name := "stepOf", desc := "(JJ)J" } : Jvm.MethodName)) ∈ lw_all := lw_g (lw_at lw_m10 156 rfl) rfl
theorem q2424 : (Jvm.Cond.privateMethod ({ cls := "AnimationController$Machine", name := "stepOf", desc := "(JJ)J" } : Jvm.MethodName)) ∈ lw_tbl := lw_at lw_m10 157 rfl
theorem q2425 : (Jvm.Cond.instanceMethod ({ cls := "AnimationController$Machine", name := "stepOf", desc := "(JJ)J" } : Jvm.MethodName)) ∈ lw_all := lw_g (lw_at lw_m10 158 rfl) rfl
theorem q2426 : (Jvm.Cond.code ({ cls := "AnimationController$Machine", name := "stepOf", desc := "(JJ)J" } : Jvm.MethodName) prog_9_method_16_code (5 : Nat) (Option.some Jvm.ClassFile.FieldType.long)) ∈ lw_all := lw_g (lw_at lw_m10 159 rfl) rfl
theorem q2427 : (Jvm.Cond.constantLong "AnimationController$Machine" (206 : Nat) (100 : Int64)) ∈ lw_all := lw_g (lw_at lw_m10 160 rfl) rfl
theorem q2428 : (Jvm.Cond.methodLink "AnimationController$Machine" (219 : Nat) ({ cls := "AnimationController$Track", name := "advance", desc := "(J)V" } : Jvm.MethodName)) ∈ lw_all := lw_g (lw_at lw_m10 161 rfl) rfl
theorem q2436 : (Jvm.Cond.methodLink "AnimationController$Machine" (237 : Nat) ({ cls := "AnimationController$Machine", name := "advanceTogether", desc := "()V" } : Jvm.MethodName)) ∈ lw_all := lw_g (lw_at lw_m10 169 rfl) rfl
theorem q2437 : (Jvm.Cond.privateMethod ({ cls := "AnimationController$Machine", name := "advanceTogether", desc := "()V" } : Jvm.MethodName)) ∈ lw_tbl := lw_at lw_m10 170 rfl
theorem q2438 : (Jvm.Cond.instanceMethod ({ cls := "AnimationController$Machine", name := "advanceTogether", desc := "()V" } : Jvm.MethodName)) ∈ lw_all := lw_g (lw_at lw_m10 171 rfl) rfl
theorem q2439 : (Jvm.Cond.code ({ cls := "AnimationController$Machine", name := "advanceTogether", desc := "()V" } : Jvm.MethodName) prog_9_method_18_code (8 : Nat) (Option.none : Option Jvm.ClassFile.FieldType)) ∈ lw_all := lw_g (lw_at lw_m10 172 rfl) rfl
theorem q2440 : (Jvm.Cond.methodLink "AnimationController$Machine" (226 : Nat) ({ cls := "AnimationController$Machine", name := "mixed", desc := "(III)J" } : Jvm.MethodName)) ∈ lw_all := lw_g (lw_at lw_m10 173 rfl) rfl
theorem q2441 : (Jvm.Cond.privateMethod ({ cls := "AnimationController$Machine", name := "mixed", desc := "(III)J" } : Jvm.MethodName)) ∈ lw_tbl := lw_at lw_m10 174 rfl
theorem q2442 : (Jvm.Cond.instanceMethod ({ cls := "AnimationController$Machine", name := "mixed", desc := "(III)J" } : Jvm.MethodName)) ∈ lw_all := lw_g (lw_at lw_m10 175 rfl) rfl
theorem q2443 : (Jvm.Cond.code ({ cls := "AnimationController$Machine", name := "mixed", desc := "(III)J" } : Jvm.MethodName) prog_9_method_19_code (4 : Nat) (Option.some Jvm.ClassFile.FieldType.long)) ∈ lw_all := lw_g (lw_at lw_m10 176 rfl) rfl
theorem q2444 : (Jvm.Cond.methodLink "AnimationController$Machine" (240 : Nat) ({ cls := "AnimationController$Machine", name := "fire", desc := "(LAnimationController$Track;I)V" } : Jvm.MethodName)) ∈ lw_all := lw_g (lw_at lw_m10 177 rfl) rfl
theorem q2445 : (Jvm.Cond.privateMethod ({ cls := "AnimationController$Machine", name := "fire", desc := "(LAnimationController$Track;I)V" } : Jvm.MethodName)) ∈ lw_tbl := lw_at lw_m10 178 rfl
theorem q2446 : (Jvm.Cond.instanceMethod ({ cls := "AnimationController$Machine", name := "fire", desc := "(LAnimationController$Track;I)V" } : Jvm.MethodName)) ∈ lw_all := lw_g (lw_at lw_m10 179 rfl) rfl
theorem q2447 : (Jvm.Cond.code ({ cls := "AnimationController$Machine", name := "fire", desc := "(LAnimationController$Track;I)V" } : Jvm.MethodName) prog_9_method_21_code (4 : Nat) (Option.none : Option Jvm.ClassFile.FieldType)) ∈ lw_all := lw_g (lw_at lw_m10 180 rfl) rfl
theorem q2448 : (Jvm.Cond.methodLink "AnimationController$Machine" (269 : Nat) ({ cls := "AnimationController$Machine", name := "fire", desc := "(LAnimationController$Track;LAnimationController$Clip;)V" } : Jvm.MethodName)) ∈ lw_all := lw_g (lw_at lw_m10 181 rfl) rfl
theorem q2449 : (Jvm.Cond.privateMethod ({ cls := "AnimationController$Machine", name := "fire", desc := "(LAnimationController$Track;LAnimationController$Clip;)V" } : Jvm.MethodName)) ∈ lw_tbl := lw_at lw_m10 182 rfl
theorem q2450 : (Jvm.Cond.instanceMethod ({ cls := "AnimationController$Machine", name := "fire", desc := "(LAnimationController$Track;LAnimationController$Clip;)V" } : Jvm.MethodName)) ∈ lw_all := lw_g (lw_at lw_m10 183 rfl) rfl
theorem q2451 : (Jvm.Cond.code ({ cls := "AnimationController$Machine", name := "fire", desc := "(LAnimationController$Track;LAnimationController$Clip;)V" } : Jvm.MethodName) prog_9_method_22_code (5 : Nat) (Option.none : Option Jvm.ClassFile.FieldType)) ∈ lw_all := lw_g (lw_at lw_m10 184 rfl) rfl
theorem q2452 : (Jvm.Cond.classLink "AnimationController$Machine" (277 : Nat) "AnimationController$Event") ∈ lw_all := lw_g (lw_at lw_m10 185 rfl) rfl
theorem q2453 : (Jvm.Cond.methodLink "AnimationController$Machine" (285 : Nat) ({ cls := "AnimationController$Track", name := "passed", desc := "(I)Z" } : Jvm.MethodName)) ∈ lw_all := lw_g (lw_at lw_m10 186 rfl) rfl
theorem q2458 : (Jvm.Cond.methodLink "AnimationController$Machine" (295 : Nat) ({ cls := "AnimationController$Machine", name := "note", desc := "(III)V" } : Jvm.MethodName)) ∈ lw_all := lw_g (lw_at lw_m10 191 rfl) rfl
theorem q2459 : (Jvm.Cond.privateMethod ({ cls := "AnimationController$Machine", name := "note", desc := "(III)V" } : Jvm.MethodName)) ∈ lw_tbl := lw_at lw_m10 192 rfl
theorem q2460 : (Jvm.Cond.instanceMethod ({ cls := "AnimationController$Machine", name := "note", desc := "(III)V" } : Jvm.MethodName)) ∈ lw_all := lw_g (lw_at lw_m10 193 rfl) rfl
theorem q2461 : (Jvm.Cond.code ({ cls := "AnimationController$Machine", name := "note", desc := "(III)V" } : Jvm.MethodName) prog_9_method_23_code (4 : Nat) (Option.none : Option Jvm.ClassFile.FieldType)) ∈ lw_all := lw_g (lw_at lw_m10 194 rfl) rfl
theorem q2462 : (Jvm.Cond.methodLink "AnimationController$Machine" (70 : Nat) ({ cls := "java/lang/System", name := "arraycopy", desc := "(Ljava/lang/Object;ILjava/lang/Object;II)V" } : Jvm.MethodName)) ∈ lw_all := lw_g (lw_at lw_m10 195 rfl) rfl
theorem q2501 : (Jvm.Cond.instanceMethod ({ cls := "AnimationController$Machine", name := "obstacleOf", desc := "(I)I" } : Jvm.MethodName)) ∈ lw_all := lw_g (lw_at lw_m10 234 rfl) rfl
theorem q2502 : (Jvm.Cond.selects "AnimationController$Machine" ({ cls := "AnimationController$Machine", name := "obstacleOf", desc := "(I)I" } : Jvm.MethodName) ({ cls := "AnimationController$Machine", name := "obstacleOf", desc := "(I)I" } : Jvm.MethodName)) ∈ lw_all := lw_g (lw_at lw_m10 235 rfl) rfl
theorem q2503 : (Jvm.Cond.code ({ cls := "AnimationController$Machine", name := "obstacleOf", desc := "(I)I" } : Jvm.MethodName) prog_9_method_12_code (3 : Nat) (Option.some Jvm.ClassFile.FieldType.int)) ∈ lw_all := lw_g (lw_at lw_m10 236 rfl) rfl
theorem q2556 : (Jvm.Cond.instanceMethod ({ cls := "AnimationController$Machine", name := "copy", desc := "()LAnimationController$Machine;" } : Jvm.MethodName)) ∈ lw_all := lw_g (lw_at lw_m11 49 rfl) rfl
theorem q2557 : (Jvm.Cond.selects "AnimationController$Machine" ({ cls := "AnimationController$Machine", name := "copy", desc := "()LAnimationController$Machine;" } : Jvm.MethodName) ({ cls := "AnimationController$Machine", name := "copy", desc := "()LAnimationController$Machine;" } : Jvm.MethodName)) ∈ lw_all := lw_g (lw_at lw_m11 50 rfl) rfl
theorem q2558 : (Jvm.Cond.code ({ cls := "AnimationController$Machine", name := "copy", desc := "()LAnimationController$Machine;" } : Jvm.MethodName) prog_9_method_3_code (2 : Nat) (Option.some (Jvm.ClassFile.FieldType.object "AnimationController$Machine"))) ∈ lw_all := lw_g (lw_at lw_m11 51 rfl) rfl
theorem q2559 : (Jvm.Cond.classLink "AnimationController$Machine" (10 : Nat) "AnimationController$Machine") ∈ lw_all := lw_g (lw_at lw_m11 52 rfl) rfl
theorem q2560 : (Jvm.Cond.methodLink "AnimationController$Machine" (49 : Nat) ({ cls := "AnimationController$Track", name := "copy", desc := "()LAnimationController$Track;" } : Jvm.MethodName)) ∈ lw_all := lw_g (lw_at lw_m11 53 rfl) rfl
theorem q3310 : (Jvm.Cond.castable "AnimationController$Machine" "java/lang/Object") ∈ lw_tbl := lw_at lw_m14 83 rfl
theorem in_X12 : ∀ w ∈ wsX120, w ∈ lw_all := lw_in wsX120 [749, 751, 753, 755, 757, 759, 761, 763, 765, 767, 769, 771, 773, 775, 777] (by decide +kernel) (by decide +kernel)

/-! AnimationController$Track -/
set_option maxRecDepth 100000
def RX13 : String := "AnimationController$Track"
def TX13 : u_T := fun k => match k with
  | 0 => ("AnimationController$Track", "state", "LAnimationController$State;", true)
  | 1 => ("AnimationController$Track", "cycles", "I", false)
  | 2 => ("AnimationController$Track", "phase", "I", false)
  | 3 => ("AnimationController$Track", "isFresh", "Z", false)
  | _ => ("AnimationController$Track", "before", "J", false)
def tyX13 : Nat → FieldType := fun k => match k with
  | 0 => .object "AnimationController$State"
  | 1 => .int
  | 2 => .int
  | 3 => .boolean
  | _ => .long
abbrev wsX130 : List Cond := u_ws RX13 TX13 5
theorem nmX13 : ∀ a, a < 5 → ∀ b, b < 5 → a ≠ b → (TX13 a).2.1 ≠ (TX13 b).2.1 := by decide +kernel
theorem tyX13_ok : ∀ k, k < 5 → parseFieldDescriptor (TX13 k).2.2.1 = some (tyX13 k) := by decide +kernel
abbrev cX13_init : ByteArray := prog_16_method_1_code
def yX13_init : MethodName := ⟨RX13, "<init>", "(LAnimationController$State;I)V"⟩
def dkwX13_init_0 : List UInt8 := [42, 183, 0, 3, 42, 4, 181, 0, 9, 42, 43, 181, 0, 15, 42, 28, 181, 0, 19, 177]
abbrev dktX13_init_0 : List UInt8 := dkwX13_init_0 ++ []
theorem dksX13_init_0 : cX13_init.data.toList.drop 0 = dktX13_init_0 := by decide +kernel
theorem dX13_init_0 : decode cX13_init 0 = .ok (.aload_n 0, 1) := dk_42 (dk_at dksX13_init_0 0 rfl rfl)
theorem dX13_init_1 : decode cX13_init 1 = .ok (.invokespecial 3, 3) := dk_183 0 3 (dk_at dksX13_init_0 1 rfl rfl)
theorem dX13_init_4 : decode cX13_init 4 = .ok (.aload_n 0, 1) := dk_42 (dk_at dksX13_init_0 4 rfl rfl)
theorem dX13_init_5 : decode cX13_init 5 = .ok (.iconst 1, 1) := dk_4 (dk_at dksX13_init_0 5 rfl rfl)
theorem dX13_init_6 : decode cX13_init 6 = .ok (.putfield 9, 3) := dk_181 0 9 (dk_at dksX13_init_0 6 rfl rfl)
theorem dX13_init_9 : decode cX13_init 9 = .ok (.aload_n 0, 1) := dk_42 (dk_at dksX13_init_0 9 rfl rfl)
theorem dX13_init_10 : decode cX13_init 10 = .ok (.aload_n 1, 1) := dk_43 (dk_at dksX13_init_0 10 rfl rfl)
theorem dX13_init_11 : decode cX13_init 11 = .ok (.putfield 15, 3) := dk_181 0 15 (dk_at dksX13_init_0 11 rfl rfl)
theorem dX13_init_14 : decode cX13_init 14 = .ok (.aload_n 0, 1) := dk_42 (dk_at dksX13_init_0 14 rfl rfl)
theorem dX13_init_15 : decode cX13_init 15 = .ok (.iload_n 2, 1) := dk_28 (dk_at dksX13_init_0 15 rfl rfl)
theorem dX13_init_16 : decode cX13_init 16 = .ok (.putfield 19, 3) := dk_181 0 19 (dk_at dksX13_init_0 16 rfl rfl)
theorem dX13_init_19 : decode cX13_init 19 = .ok (.return_, 1) := dk_177 (dk_at dksX13_init_0 19 rfl rfl)
abbrev cX13_progress : ByteArray := prog_16_method_3_code
def yX13_progress : MethodName := ⟨RX13, "progress", "()J"⟩
def dkwX13_progress_0 : List UInt8 := [42, 180, 0, 26, 133, 20, 0, 33, 105, 42, 180, 0, 19, 133, 97, 173]
abbrev dktX13_progress_0 : List UInt8 := dkwX13_progress_0 ++ []
theorem dksX13_progress_0 : cX13_progress.data.toList.drop 0 = dktX13_progress_0 := by decide +kernel
theorem dX13_progress_0 : decode cX13_progress 0 = .ok (.aload_n 0, 1) := dk_42 (dk_at dksX13_progress_0 0 rfl rfl)
theorem dX13_progress_1 : decode cX13_progress 1 = .ok (.getfield 26, 3) := dk_180 0 26 (dk_at dksX13_progress_0 1 rfl rfl)
theorem dX13_progress_4 : decode cX13_progress 4 = .ok (.i2l, 1) := dk_133 (dk_at dksX13_progress_0 4 rfl rfl)
theorem dX13_progress_5 : decode cX13_progress 5 = .ok (.ldc2_w 33, 3) := dk_20 0 33 (dk_at dksX13_progress_0 5 rfl rfl)
theorem dX13_progress_8 : decode cX13_progress 8 = .ok (.lmul, 1) := dk_105 (dk_at dksX13_progress_0 8 rfl rfl)
theorem dX13_progress_9 : decode cX13_progress 9 = .ok (.aload_n 0, 1) := dk_42 (dk_at dksX13_progress_0 9 rfl rfl)
theorem dX13_progress_10 : decode cX13_progress 10 = .ok (.getfield 19, 3) := dk_180 0 19 (dk_at dksX13_progress_0 10 rfl rfl)
theorem dX13_progress_13 : decode cX13_progress 13 = .ok (.i2l, 1) := dk_133 (dk_at dksX13_progress_0 13 rfl rfl)
theorem dX13_progress_14 : decode cX13_progress 14 = .ok (.ladd, 1) := dk_97 (dk_at dksX13_progress_0 14 rfl rfl)
theorem dX13_progress_15 : decode cX13_progress 15 = .ok (.lreturn, 1) := dk_173 (dk_at dksX13_progress_0 15 rfl rfl)
abbrev cX13_advance : ByteArray := prog_16_method_4_code
def yX13_advance : MethodName := ⟨RX13, "advance", "(J)V"⟩
def dkwX13_advance_2 : List UInt8 := [136, 181, 0, 19, 167, 0, 15, 42, 20, 0, 33, 33, 184, 0, 44, 136, 181, 0, 19, 177]
abbrev dktX13_advance_2 : List UInt8 := dkwX13_advance_2 ++ []
def dkwX13_advance_1 : List UInt8 := [153, 0, 31, 42, 89, 180, 0, 26, 33, 20, 0, 33, 109, 136, 96, 181, 0, 26, 42, 33, 20, 0, 33, 113]
abbrev dktX13_advance_1 : List UInt8 := dkwX13_advance_1 ++ dktX13_advance_2
def dkwX13_advance_0 : List UInt8 := [42, 42, 182, 0, 35, 181, 0, 29, 42, 180, 0, 19, 133, 31, 97, 66, 42, 180, 0, 15, 180, 0, 39]
abbrev dktX13_advance_0 : List UInt8 := dkwX13_advance_0 ++ dktX13_advance_1
theorem dksX13_advance_0 : cX13_advance.data.toList.drop 0 = dktX13_advance_0 := by decide +kernel
theorem dksX13_advance_1 : cX13_advance.data.toList.drop 23 = dktX13_advance_1 := dk_seg dksX13_advance_0 23 rfl rfl
theorem dksX13_advance_2 : cX13_advance.data.toList.drop 47 = dktX13_advance_2 := dk_seg dksX13_advance_1 24 rfl rfl
theorem dX13_advance_0 : decode cX13_advance 0 = .ok (.aload_n 0, 1) := dk_42 (dk_at dksX13_advance_0 0 rfl rfl)
theorem dX13_advance_1 : decode cX13_advance 1 = .ok (.aload_n 0, 1) := dk_42 (dk_at dksX13_advance_0 1 rfl rfl)
theorem dX13_advance_2 : decode cX13_advance 2 = .ok (.invokevirtual 35, 3) := dk_182 0 35 (dk_at dksX13_advance_0 2 rfl rfl)
theorem dX13_advance_5 : decode cX13_advance 5 = .ok (.putfield 29, 3) := dk_181 0 29 (dk_at dksX13_advance_0 5 rfl rfl)
theorem dX13_advance_8 : decode cX13_advance 8 = .ok (.aload_n 0, 1) := dk_42 (dk_at dksX13_advance_0 8 rfl rfl)
theorem dX13_advance_9 : decode cX13_advance 9 = .ok (.getfield 19, 3) := dk_180 0 19 (dk_at dksX13_advance_0 9 rfl rfl)
theorem dX13_advance_12 : decode cX13_advance 12 = .ok (.i2l, 1) := dk_133 (dk_at dksX13_advance_0 12 rfl rfl)
theorem dX13_advance_13 : decode cX13_advance 13 = .ok (.lload_n 1, 1) := dk_31 (dk_at dksX13_advance_0 13 rfl rfl)
theorem dX13_advance_14 : decode cX13_advance 14 = .ok (.ladd, 1) := dk_97 (dk_at dksX13_advance_0 14 rfl rfl)
theorem dX13_advance_15 : decode cX13_advance 15 = .ok (.lstore_n 3, 1) := dk_66 (dk_at dksX13_advance_0 15 rfl rfl)
theorem dX13_advance_16 : decode cX13_advance 16 = .ok (.aload_n 0, 1) := dk_42 (dk_at dksX13_advance_0 16 rfl rfl)
theorem dX13_advance_17 : decode cX13_advance 17 = .ok (.getfield 15, 3) := dk_180 0 15 (dk_at dksX13_advance_0 17 rfl rfl)
theorem dX13_advance_20 : decode cX13_advance 20 = .ok (.getfield 39, 3) := dk_180 0 39 (dk_at dksX13_advance_0 20 rfl rfl)
theorem dX13_advance_23 : decode cX13_advance 23 = .ok (.ifCond .eq 31, 3) := dk_153 0 31 (dk_at dksX13_advance_1 0 rfl rfl)
theorem dX13_advance_26 : decode cX13_advance 26 = .ok (.aload_n 0, 1) := dk_42 (dk_at dksX13_advance_1 3 rfl rfl)
theorem dX13_advance_27 : decode cX13_advance 27 = .ok (.dup, 1) := dk_89 (dk_at dksX13_advance_1 4 rfl rfl)
theorem dX13_advance_28 : decode cX13_advance 28 = .ok (.getfield 26, 3) := dk_180 0 26 (dk_at dksX13_advance_1 5 rfl rfl)
theorem dX13_advance_31 : decode cX13_advance 31 = .ok (.lload_n 3, 1) := dk_33 (dk_at dksX13_advance_1 8 rfl rfl)
theorem dX13_advance_32 : decode cX13_advance 32 = .ok (.ldc2_w 33, 3) := dk_20 0 33 (dk_at dksX13_advance_1 9 rfl rfl)
theorem dX13_advance_35 : decode cX13_advance 35 = .ok (.ldiv, 1) := dk_109 (dk_at dksX13_advance_1 12 rfl rfl)
theorem dX13_advance_36 : decode cX13_advance 36 = .ok (.l2i, 1) := dk_136 (dk_at dksX13_advance_1 13 rfl rfl)
theorem dX13_advance_37 : decode cX13_advance 37 = .ok (.iadd, 1) := dk_96 (dk_at dksX13_advance_1 14 rfl rfl)
theorem dX13_advance_38 : decode cX13_advance 38 = .ok (.putfield 26, 3) := dk_181 0 26 (dk_at dksX13_advance_1 15 rfl rfl)
theorem dX13_advance_41 : decode cX13_advance 41 = .ok (.aload_n 0, 1) := dk_42 (dk_at dksX13_advance_1 18 rfl rfl)
theorem dX13_advance_42 : decode cX13_advance 42 = .ok (.lload_n 3, 1) := dk_33 (dk_at dksX13_advance_1 19 rfl rfl)
theorem dX13_advance_43 : decode cX13_advance 43 = .ok (.ldc2_w 33, 3) := dk_20 0 33 (dk_at dksX13_advance_1 20 rfl rfl)
theorem dX13_advance_46 : decode cX13_advance 46 = .ok (.lrem, 1) := dk_113 (dk_at dksX13_advance_1 23 rfl rfl)
theorem dX13_advance_47 : decode cX13_advance 47 = .ok (.l2i, 1) := dk_136 (dk_at dksX13_advance_2 0 rfl rfl)
theorem dX13_advance_48 : decode cX13_advance 48 = .ok (.putfield 19, 3) := dk_181 0 19 (dk_at dksX13_advance_2 1 rfl rfl)
theorem dX13_advance_51 : decode cX13_advance 51 = .ok (.goto 15, 3) := dk_167 0 15 (dk_at dksX13_advance_2 4 rfl rfl)
theorem dX13_advance_54 : decode cX13_advance 54 = .ok (.aload_n 0, 1) := dk_42 (dk_at dksX13_advance_2 7 rfl rfl)
theorem dX13_advance_55 : decode cX13_advance 55 = .ok (.ldc2_w 33, 3) := dk_20 0 33 (dk_at dksX13_advance_2 8 rfl rfl)
theorem dX13_advance_58 : decode cX13_advance 58 = .ok (.lload_n 3, 1) := dk_33 (dk_at dksX13_advance_2 11 rfl rfl)
theorem dX13_advance_59 : decode cX13_advance 59 = .ok (.invokestatic 44, 3) := dk_184 0 44 (dk_at dksX13_advance_2 12 rfl rfl)
theorem dX13_advance_62 : decode cX13_advance 62 = .ok (.l2i, 1) := dk_136 (dk_at dksX13_advance_2 15 rfl rfl)
theorem dX13_advance_63 : decode cX13_advance 63 = .ok (.putfield 19, 3) := dk_181 0 19 (dk_at dksX13_advance_2 16 rfl rfl)
theorem dX13_advance_66 : decode cX13_advance 66 = .ok (.return_, 1) := dk_177 (dk_at dksX13_advance_2 19 rfl rfl)
abbrev cX13_passed : ByteArray := prog_16_method_5_code
def yX13_passed : MethodName := ⟨RX13, "passed", "(I)Z"⟩
def dkwX13_passed_3 : List UInt8 := [32, 148, 155, 0, 7, 4, 167, 0, 4, 3, 172]
abbrev dktX13_passed_3 : List UInt8 := dkwX13_passed_3 ++ []
def dkwX13_passed_2 : List UInt8 := [22, 4, 27, 133, 148, 155, 0, 28, 22, 4, 27, 133, 101, 20, 0, 33, 109, 20, 0, 33, 105, 27, 133, 97]
abbrev dktX13_passed_2 : List UInt8 := dkwX13_passed_2 ++ dktX13_passed_3
def dkwX13_passed_1 : List UInt8 := [182, 0, 35, 55, 4, 42, 180, 0, 15, 180, 0, 39, 154, 0, 12, 27, 133, 32, 22, 4, 184, 0, 50, 172]
abbrev dktX13_passed_1 : List UInt8 := dkwX13_passed_1 ++ dktX13_passed_2
def dkwX13_passed_0 : List UInt8 := [42, 180, 0, 9, 153, 0, 10, 42, 180, 0, 29, 167, 0, 9, 42, 180, 0, 29, 10, 97, 65, 42]
abbrev dktX13_passed_0 : List UInt8 := dkwX13_passed_0 ++ dktX13_passed_1
theorem dksX13_passed_0 : cX13_passed.data.toList.drop 0 = dktX13_passed_0 := by decide +kernel
theorem dksX13_passed_1 : cX13_passed.data.toList.drop 22 = dktX13_passed_1 := dk_seg dksX13_passed_0 22 rfl rfl
theorem dksX13_passed_2 : cX13_passed.data.toList.drop 46 = dktX13_passed_2 := dk_seg dksX13_passed_1 24 rfl rfl
theorem dksX13_passed_3 : cX13_passed.data.toList.drop 70 = dktX13_passed_3 := dk_seg dksX13_passed_2 24 rfl rfl
theorem dX13_passed_0 : decode cX13_passed 0 = .ok (.aload_n 0, 1) := dk_42 (dk_at dksX13_passed_0 0 rfl rfl)
theorem dX13_passed_1 : decode cX13_passed 1 = .ok (.getfield 9, 3) := dk_180 0 9 (dk_at dksX13_passed_0 1 rfl rfl)
theorem dX13_passed_4 : decode cX13_passed 4 = .ok (.ifCond .eq 10, 3) := dk_153 0 10 (dk_at dksX13_passed_0 4 rfl rfl)
theorem dX13_passed_7 : decode cX13_passed 7 = .ok (.aload_n 0, 1) := dk_42 (dk_at dksX13_passed_0 7 rfl rfl)
theorem dX13_passed_8 : decode cX13_passed 8 = .ok (.getfield 29, 3) := dk_180 0 29 (dk_at dksX13_passed_0 8 rfl rfl)
theorem dX13_passed_11 : decode cX13_passed 11 = .ok (.goto 9, 3) := dk_167 0 9 (dk_at dksX13_passed_0 11 rfl rfl)
theorem dX13_passed_14 : decode cX13_passed 14 = .ok (.aload_n 0, 1) := dk_42 (dk_at dksX13_passed_0 14 rfl rfl)
theorem dX13_passed_15 : decode cX13_passed 15 = .ok (.getfield 29, 3) := dk_180 0 29 (dk_at dksX13_passed_0 15 rfl rfl)
theorem dX13_passed_18 : decode cX13_passed 18 = .ok (.lconst 1, 1) := dk_10 (dk_at dksX13_passed_0 18 rfl rfl)
theorem dX13_passed_19 : decode cX13_passed 19 = .ok (.ladd, 1) := dk_97 (dk_at dksX13_passed_0 19 rfl rfl)
theorem dX13_passed_20 : decode cX13_passed 20 = .ok (.lstore_n 2, 1) := dk_65 (dk_at dksX13_passed_0 20 rfl rfl)
theorem dX13_passed_21 : decode cX13_passed 21 = .ok (.aload_n 0, 1) := dk_42 (dk_at dksX13_passed_0 21 rfl rfl)
theorem dX13_passed_22 : decode cX13_passed 22 = .ok (.invokevirtual 35, 3) := dk_182 0 35 (dk_at dksX13_passed_1 0 rfl rfl)
theorem dX13_passed_25 : decode cX13_passed 25 = .ok (.lstore 4, 2) := dk_55 4 (dk_at dksX13_passed_1 3 rfl rfl)
theorem dX13_passed_27 : decode cX13_passed 27 = .ok (.aload_n 0, 1) := dk_42 (dk_at dksX13_passed_1 5 rfl rfl)
theorem dX13_passed_28 : decode cX13_passed 28 = .ok (.getfield 15, 3) := dk_180 0 15 (dk_at dksX13_passed_1 6 rfl rfl)
theorem dX13_passed_31 : decode cX13_passed 31 = .ok (.getfield 39, 3) := dk_180 0 39 (dk_at dksX13_passed_1 9 rfl rfl)
theorem dX13_passed_34 : decode cX13_passed 34 = .ok (.ifCond .ne 12, 3) := dk_154 0 12 (dk_at dksX13_passed_1 12 rfl rfl)
theorem dX13_passed_37 : decode cX13_passed 37 = .ok (.iload_n 1, 1) := dk_27 (dk_at dksX13_passed_1 15 rfl rfl)
theorem dX13_passed_38 : decode cX13_passed 38 = .ok (.i2l, 1) := dk_133 (dk_at dksX13_passed_1 16 rfl rfl)
theorem dX13_passed_39 : decode cX13_passed 39 = .ok (.lload_n 2, 1) := dk_32 (dk_at dksX13_passed_1 17 rfl rfl)
theorem dX13_passed_40 : decode cX13_passed 40 = .ok (.lload 4, 2) := dk_22 4 (dk_at dksX13_passed_1 18 rfl rfl)
theorem dX13_passed_42 : decode cX13_passed 42 = .ok (.invokestatic 50, 3) := dk_184 0 50 (dk_at dksX13_passed_1 20 rfl rfl)
theorem dX13_passed_45 : decode cX13_passed 45 = .ok (.ireturn, 1) := dk_172 (dk_at dksX13_passed_1 23 rfl rfl)
theorem dX13_passed_46 : decode cX13_passed 46 = .ok (.lload 4, 2) := dk_22 4 (dk_at dksX13_passed_2 0 rfl rfl)
theorem dX13_passed_48 : decode cX13_passed 48 = .ok (.iload_n 1, 1) := dk_27 (dk_at dksX13_passed_2 2 rfl rfl)
theorem dX13_passed_49 : decode cX13_passed 49 = .ok (.i2l, 1) := dk_133 (dk_at dksX13_passed_2 3 rfl rfl)
theorem dX13_passed_50 : decode cX13_passed 50 = .ok (.lcmp, 1) := dk_148 (dk_at dksX13_passed_2 4 rfl rfl)
theorem dX13_passed_51 : decode cX13_passed 51 = .ok (.ifCond .lt 28, 3) := dk_155 0 28 (dk_at dksX13_passed_2 5 rfl rfl)
theorem dX13_passed_54 : decode cX13_passed 54 = .ok (.lload 4, 2) := dk_22 4 (dk_at dksX13_passed_2 8 rfl rfl)
theorem dX13_passed_56 : decode cX13_passed 56 = .ok (.iload_n 1, 1) := dk_27 (dk_at dksX13_passed_2 10 rfl rfl)
theorem dX13_passed_57 : decode cX13_passed 57 = .ok (.i2l, 1) := dk_133 (dk_at dksX13_passed_2 11 rfl rfl)
theorem dX13_passed_58 : decode cX13_passed 58 = .ok (.lsub, 1) := dk_101 (dk_at dksX13_passed_2 12 rfl rfl)
theorem dX13_passed_59 : decode cX13_passed 59 = .ok (.ldc2_w 33, 3) := dk_20 0 33 (dk_at dksX13_passed_2 13 rfl rfl)
theorem dX13_passed_62 : decode cX13_passed 62 = .ok (.ldiv, 1) := dk_109 (dk_at dksX13_passed_2 16 rfl rfl)
theorem dX13_passed_63 : decode cX13_passed 63 = .ok (.ldc2_w 33, 3) := dk_20 0 33 (dk_at dksX13_passed_2 17 rfl rfl)
theorem dX13_passed_66 : decode cX13_passed 66 = .ok (.lmul, 1) := dk_105 (dk_at dksX13_passed_2 20 rfl rfl)
theorem dX13_passed_67 : decode cX13_passed 67 = .ok (.iload_n 1, 1) := dk_27 (dk_at dksX13_passed_2 21 rfl rfl)
theorem dX13_passed_68 : decode cX13_passed 68 = .ok (.i2l, 1) := dk_133 (dk_at dksX13_passed_2 22 rfl rfl)
theorem dX13_passed_69 : decode cX13_passed 69 = .ok (.ladd, 1) := dk_97 (dk_at dksX13_passed_2 23 rfl rfl)
theorem dX13_passed_70 : decode cX13_passed 70 = .ok (.lload_n 2, 1) := dk_32 (dk_at dksX13_passed_3 0 rfl rfl)
theorem dX13_passed_71 : decode cX13_passed 71 = .ok (.lcmp, 1) := dk_148 (dk_at dksX13_passed_3 1 rfl rfl)
theorem dX13_passed_72 : decode cX13_passed 72 = .ok (.ifCond .lt 7, 3) := dk_155 0 7 (dk_at dksX13_passed_3 2 rfl rfl)
theorem dX13_passed_75 : decode cX13_passed 75 = .ok (.iconst 1, 1) := dk_4 (dk_at dksX13_passed_3 5 rfl rfl)
theorem dX13_passed_76 : decode cX13_passed 76 = .ok (.goto 4, 3) := dk_167 0 4 (dk_at dksX13_passed_3 6 rfl rfl)
theorem dX13_passed_79 : decode cX13_passed 79 = .ok (.iconst 0, 1) := dk_3 (dk_at dksX13_passed_3 9 rfl rfl)
theorem dX13_passed_80 : decode cX13_passed 80 = .ok (.ireturn, 1) := dk_172 (dk_at dksX13_passed_3 10 rfl rfl)
abbrev cX13_copy : ByteArray := prog_16_method_2_code
def yX13_copy : MethodName := ⟨RX13, "copy", "()LAnimationController$Track;"⟩
def dkwX13_copy_1 : List UInt8 := [43, 42, 180, 0, 9, 181, 0, 9, 43, 42, 180, 0, 29, 181, 0, 29, 43, 176]
abbrev dktX13_copy_1 : List UInt8 := dkwX13_copy_1 ++ []
def dkwX13_copy_0 : List UInt8 := [187, 0, 10, 89, 42, 180, 0, 15, 42, 180, 0, 19, 183, 0, 23, 76, 43, 42, 180, 0, 26, 181, 0, 26]
abbrev dktX13_copy_0 : List UInt8 := dkwX13_copy_0 ++ dktX13_copy_1
theorem dksX13_copy_0 : cX13_copy.data.toList.drop 0 = dktX13_copy_0 := by decide +kernel
theorem dksX13_copy_1 : cX13_copy.data.toList.drop 24 = dktX13_copy_1 := dk_seg dksX13_copy_0 24 rfl rfl
theorem dX13_copy_0 : decode cX13_copy 0 = .ok (.new 10, 3) := dk_187 0 10 (dk_at dksX13_copy_0 0 rfl rfl)
theorem dX13_copy_3 : decode cX13_copy 3 = .ok (.dup, 1) := dk_89 (dk_at dksX13_copy_0 3 rfl rfl)
theorem dX13_copy_4 : decode cX13_copy 4 = .ok (.aload_n 0, 1) := dk_42 (dk_at dksX13_copy_0 4 rfl rfl)
theorem dX13_copy_5 : decode cX13_copy 5 = .ok (.getfield 15, 3) := dk_180 0 15 (dk_at dksX13_copy_0 5 rfl rfl)
theorem dX13_copy_8 : decode cX13_copy 8 = .ok (.aload_n 0, 1) := dk_42 (dk_at dksX13_copy_0 8 rfl rfl)
theorem dX13_copy_9 : decode cX13_copy 9 = .ok (.getfield 19, 3) := dk_180 0 19 (dk_at dksX13_copy_0 9 rfl rfl)
theorem dX13_copy_12 : decode cX13_copy 12 = .ok (.invokespecial 23, 3) := dk_183 0 23 (dk_at dksX13_copy_0 12 rfl rfl)
theorem dX13_copy_15 : decode cX13_copy 15 = .ok (.astore_n 1, 1) := dk_76 (dk_at dksX13_copy_0 15 rfl rfl)
theorem dX13_copy_16 : decode cX13_copy 16 = .ok (.aload_n 1, 1) := dk_43 (dk_at dksX13_copy_0 16 rfl rfl)
theorem dX13_copy_17 : decode cX13_copy 17 = .ok (.aload_n 0, 1) := dk_42 (dk_at dksX13_copy_0 17 rfl rfl)
theorem dX13_copy_18 : decode cX13_copy 18 = .ok (.getfield 26, 3) := dk_180 0 26 (dk_at dksX13_copy_0 18 rfl rfl)
theorem dX13_copy_21 : decode cX13_copy 21 = .ok (.putfield 26, 3) := dk_181 0 26 (dk_at dksX13_copy_0 21 rfl rfl)
theorem dX13_copy_24 : decode cX13_copy 24 = .ok (.aload_n 1, 1) := dk_43 (dk_at dksX13_copy_1 0 rfl rfl)
theorem dX13_copy_25 : decode cX13_copy 25 = .ok (.aload_n 0, 1) := dk_42 (dk_at dksX13_copy_1 1 rfl rfl)
theorem dX13_copy_26 : decode cX13_copy 26 = .ok (.getfield 9, 3) := dk_180 0 9 (dk_at dksX13_copy_1 2 rfl rfl)
theorem dX13_copy_29 : decode cX13_copy 29 = .ok (.putfield 9, 3) := dk_181 0 9 (dk_at dksX13_copy_1 5 rfl rfl)
theorem dX13_copy_32 : decode cX13_copy 32 = .ok (.aload_n 1, 1) := dk_43 (dk_at dksX13_copy_1 8 rfl rfl)
theorem dX13_copy_33 : decode cX13_copy 33 = .ok (.aload_n 0, 1) := dk_42 (dk_at dksX13_copy_1 9 rfl rfl)
theorem dX13_copy_34 : decode cX13_copy 34 = .ok (.getfield 29, 3) := dk_180 0 29 (dk_at dksX13_copy_1 10 rfl rfl)
theorem dX13_copy_37 : decode cX13_copy 37 = .ok (.putfield 29, 3) := dk_181 0 29 (dk_at dksX13_copy_1 13 rfl rfl)
theorem dX13_copy_40 : decode cX13_copy 40 = .ok (.aload_n 1, 1) := dk_43 (dk_at dksX13_copy_1 16 rfl rfl)
theorem dX13_copy_41 : decode cX13_copy 41 = .ok (.areturn, 1) := dk_176 (dk_at dksX13_copy_1 17 rfl rfl)
theorem q146 : (Jvm.Cond.initialized "AnimationController$Track") ∈ lw_all := lw_g (lw_at lw_m1 39 rfl) rfl
theorem q694 : (Jvm.Cond.instantiable "AnimationController$Track" (5 : Nat)) ∈ lw_all := lw_g (lw_at lw_m3 107 rfl) rfl
theorem q696 : (Jvm.Cond.instanceMethod ({ cls := "AnimationController$Track", name := "<init>", desc := "(LAnimationController$State;I)V" } : Jvm.MethodName)) ∈ lw_all := lw_g (lw_at lw_m3 109 rfl) rfl
theorem q697 : (Jvm.Cond.code ({ cls := "AnimationController$Track", name := "<init>", desc := "(LAnimationController$State;I)V" } : Jvm.MethodName) prog_16_method_1_code (3 : Nat) (Option.none : Option Jvm.ClassFile.FieldType)) ∈ lw_all := lw_g (lw_at lw_m3 110 rfl) rfl
theorem q698 : (Jvm.Cond.methodLink "AnimationController$Track" (3 : Nat) ({ cls := "java/lang/Object", name := "<init>", desc := "()V" } : Jvm.MethodName)) ∈ lw_all := lw_g (lw_at lw_m3 111 rfl) rfl
theorem q699 : (Jvm.Cond.fieldLink "AnimationController$Track" (15 : Nat) "AnimationController$Track" "state" "LAnimationController$State;") ∈ lw_all := lw_g (lw_at lw_m3 112 rfl) rfl
theorem q702 : (Jvm.Cond.fieldLink "AnimationController$Track" (26 : Nat) "AnimationController$Track" "cycles" "I") ∈ lw_all := lw_g (lw_at lw_m3 115 rfl) rfl
theorem q703 : (Jvm.Cond.fieldLink "AnimationController$Track" (19 : Nat) "AnimationController$Track" "phase" "I") ∈ lw_all := lw_g (lw_at lw_m3 116 rfl) rfl
theorem q705 : (Jvm.Cond.fieldLink "AnimationController$Track" (9 : Nat) "AnimationController$Track" "isFresh" "Z") ∈ lw_all := lw_g (lw_at lw_m3 118 rfl) rfl
theorem q707 : (Jvm.Cond.fieldLink "AnimationController$Track" (29 : Nat) "AnimationController$Track" "before" "J") ∈ lw_all := lw_g (lw_at lw_m3 120 rfl) rfl
theorem q708 : (Jvm.Cond.laysFinal "AnimationController$Track" "AnimationController$Track" "state" "LAnimationController$State;") ∈ lw_all := lw_g (lw_at lw_m3 121 rfl) rfl
theorem q709 : (Jvm.Cond.soleField "AnimationController$Track" "state") ∈ lw_all := lw_g (lw_at lw_m3 122 rfl) rfl
theorem q710 : (Jvm.Cond.lays "AnimationController$Track" "AnimationController$Track" "cycles" "I") ∈ lw_all := lw_g (lw_at lw_m3 123 rfl) rfl
theorem q711 : (Jvm.Cond.soleField "AnimationController$Track" "cycles") ∈ lw_all := lw_g (lw_at lw_m3 124 rfl) rfl
theorem q712 : (Jvm.Cond.lays "AnimationController$Track" "AnimationController$Track" "phase" "I") ∈ lw_all := lw_g (lw_at lw_m3 125 rfl) rfl
theorem q713 : (Jvm.Cond.soleField "AnimationController$Track" "phase") ∈ lw_all := lw_g (lw_at lw_m3 126 rfl) rfl
theorem q714 : (Jvm.Cond.lays "AnimationController$Track" "AnimationController$Track" "isFresh" "Z") ∈ lw_all := lw_g (lw_at lw_m3 127 rfl) rfl
theorem q715 : (Jvm.Cond.soleField "AnimationController$Track" "isFresh") ∈ lw_all := lw_g (lw_at lw_m3 128 rfl) rfl
theorem q716 : (Jvm.Cond.lays "AnimationController$Track" "AnimationController$Track" "before" "J") ∈ lw_all := lw_g (lw_at lw_m3 129 rfl) rfl
theorem q717 : (Jvm.Cond.soleField "AnimationController$Track" "before") ∈ lw_all := lw_g (lw_at lw_m3 130 rfl) rfl
theorem q718 : (Jvm.Cond.superclass "AnimationController$Track" "java/lang/Object") ∈ lw_all := lw_g (lw_at lw_m3 131 rfl) rfl
theorem q1127 : (Jvm.Cond.selects "AnimationController$Track" ({ cls := "java/lang/Object", name := "getClass", desc := "()Ljava/lang/Class;" } : Jvm.MethodName) ({ cls := "java/lang/Object", name := "getClass", desc := "()Ljava/lang/Class;" } : Jvm.MethodName)) ∈ lw_all := lw_g (lw_at lw_m5 60 rfl) rfl
theorem q1287 : (Jvm.Cond.selects "AnimationController$Track" ({ cls := "java/lang/Object", name := "hashCode", desc := "()I" } : Jvm.MethodName) ({ cls := "java/lang/Object", name := "hashCode", desc := "()I" } : Jvm.MethodName)) ∈ lw_all := lw_g (lw_at lw_m5 220 rfl) rfl
theorem q1384 : (Jvm.Cond.selects "AnimationController$Track" ({ cls := "java/lang/Object", name := "equals", desc := "(Ljava/lang/Object;)Z" } : Jvm.MethodName) ({ cls := "java/lang/Object", name := "equals", desc := "(Ljava/lang/Object;)Z" } : Jvm.MethodName)) ∈ lw_all := lw_g (lw_at lw_m6 77 rfl) rfl
theorem q2214 : (Jvm.Cond.fieldLinkNest "AnimationController$Track" (39 : Nat) "AnimationController$State" "loops" "Z" "AnimationController") ∈ lw_tbl := lw_at lw_m9 187 rfl
theorem q2361 : (Jvm.Cond.instanceMethod ({ cls := "AnimationController$Track", name := "progress", desc := "()J" } : Jvm.MethodName)) ∈ lw_all := lw_g (lw_at lw_m10 94 rfl) rfl
theorem q2362 : (Jvm.Cond.selects "AnimationController$Track" ({ cls := "AnimationController$Track", name := "progress", desc := "()J" } : Jvm.MethodName) ({ cls := "AnimationController$Track", name := "progress", desc := "()J" } : Jvm.MethodName)) ∈ lw_all := lw_g (lw_at lw_m10 95 rfl) rfl
theorem q2363 : (Jvm.Cond.code ({ cls := "AnimationController$Track", name := "progress", desc := "()J" } : Jvm.MethodName) prog_16_method_3_code (1 : Nat) (Option.some Jvm.ClassFile.FieldType.long)) ∈ lw_all := lw_g (lw_at lw_m10 96 rfl) rfl
theorem q2364 : (Jvm.Cond.constantLong "AnimationController$Track" (33 : Nat) (1000000 : Int64)) ∈ lw_all := lw_g (lw_at lw_m10 97 rfl) rfl
theorem q2429 : (Jvm.Cond.instanceMethod ({ cls := "AnimationController$Track", name := "advance", desc := "(J)V" } : Jvm.MethodName)) ∈ lw_all := lw_g (lw_at lw_m10 162 rfl) rfl
theorem q2430 : (Jvm.Cond.selects "AnimationController$Track" ({ cls := "AnimationController$Track", name := "advance", desc := "(J)V" } : Jvm.MethodName) ({ cls := "AnimationController$Track", name := "advance", desc := "(J)V" } : Jvm.MethodName)) ∈ lw_all := lw_g (lw_at lw_m10 163 rfl) rfl
theorem q2431 : (Jvm.Cond.code ({ cls := "AnimationController$Track", name := "advance", desc := "(J)V" } : Jvm.MethodName) prog_16_method_4_code (5 : Nat) (Option.none : Option Jvm.ClassFile.FieldType)) ∈ lw_all := lw_g (lw_at lw_m10 164 rfl) rfl
theorem q2432 : (Jvm.Cond.methodLink "AnimationController$Track" (35 : Nat) ({ cls := "AnimationController$Track", name := "progress", desc := "()J" } : Jvm.MethodName)) ∈ lw_all := lw_g (lw_at lw_m10 165 rfl) rfl
theorem q2433 : (Jvm.Cond.methodLink "AnimationController$Track" (44 : Nat) ({ cls := "java/lang/Math", name := "min", desc := "(JJ)J" } : Jvm.MethodName)) ∈ lw_all := lw_g (lw_at lw_m10 166 rfl) rfl
theorem q2454 : (Jvm.Cond.instanceMethod ({ cls := "AnimationController$Track", name := "passed", desc := "(I)Z" } : Jvm.MethodName)) ∈ lw_all := lw_g (lw_at lw_m10 187 rfl) rfl
theorem q2455 : (Jvm.Cond.selects "AnimationController$Track" ({ cls := "AnimationController$Track", name := "passed", desc := "(I)Z" } : Jvm.MethodName) ({ cls := "AnimationController$Track", name := "passed", desc := "(I)Z" } : Jvm.MethodName)) ∈ lw_all := lw_g (lw_at lw_m10 188 rfl) rfl
theorem q2456 : (Jvm.Cond.code ({ cls := "AnimationController$Track", name := "passed", desc := "(I)Z" } : Jvm.MethodName) prog_16_method_5_code (6 : Nat) (Option.some Jvm.ClassFile.FieldType.boolean)) ∈ lw_all := lw_g (lw_at lw_m10 189 rfl) rfl
theorem q2457 : (Jvm.Cond.methodLinkNest "AnimationController$Track" (50 : Nat) ({ cls := "AnimationController", name := "in", desc := "(JJJ)Z" } : Jvm.MethodName) "AnimationController") ∈ lw_tbl := lw_at lw_m10 190 rfl
theorem q2561 : (Jvm.Cond.instanceMethod ({ cls := "AnimationController$Track", name := "copy", desc := "()LAnimationController$Track;" } : Jvm.MethodName)) ∈ lw_all := lw_g (lw_at lw_m11 54 rfl) rfl
theorem q2562 : (Jvm.Cond.selects "AnimationController$Track" ({ cls := "AnimationController$Track", name := "copy", desc := "()LAnimationController$Track;" } : Jvm.MethodName) ({ cls := "AnimationController$Track", name := "copy", desc := "()LAnimationController$Track;" } : Jvm.MethodName)) ∈ lw_all := lw_g (lw_at lw_m11 55 rfl) rfl
theorem q2563 : (Jvm.Cond.code ({ cls := "AnimationController$Track", name := "copy", desc := "()LAnimationController$Track;" } : Jvm.MethodName) prog_16_method_2_code (2 : Nat) (Option.some (Jvm.ClassFile.FieldType.object "AnimationController$Track"))) ∈ lw_all := lw_g (lw_at lw_m11 56 rfl) rfl
theorem q2564 : (Jvm.Cond.classLink "AnimationController$Track" (10 : Nat) "AnimationController$Track") ∈ lw_all := lw_g (lw_at lw_m11 57 rfl) rfl
theorem q2565 : (Jvm.Cond.methodLink "AnimationController$Track" (23 : Nat) ({ cls := "AnimationController$Track", name := "<init>", desc := "(LAnimationController$State;I)V" } : Jvm.MethodName)) ∈ lw_all := lw_g (lw_at lw_m11 58 rfl) rfl
theorem q3311 : (Jvm.Cond.castable "AnimationController$Track" "java/lang/Object") ∈ lw_tbl := lw_at lw_m14 84 rfl
theorem in_X13 : ∀ w ∈ wsX130, w ∈ lw_all := lw_in wsX130 [708, 710, 712, 714, 716] (by decide +kernel) (by decide +kernel)

/-! AnimationController$Transition -/
set_option maxRecDepth 100000
def RX14 : String := "AnimationController$Transition"
def TX14 : u_T := fun k => match k with
  | 0 => ("AnimationController$Transition", "from", "LAnimationController$State;", true)
  | 1 => ("AnimationController$Transition", "to", "LAnimationController$State;", true)
  | 2 => ("AnimationController$Transition", "duration", "I", true)
  | 3 => ("AnimationController$Transition", "exit", "I", false)
  | 4 => ("AnimationController$Transition", "start", "I", false)
  | 5 => ("AnimationController$Transition", "mode", "I", false)
  | 6 => ("AnimationController$Transition", "isOrdered", "Z", false)
  | 7 => ("AnimationController$Transition", "conditions", "[LAnimationController$Condition;", true)
  | _ => ("AnimationController$Transition", "many", "I", false)
def tyX14 : Nat → FieldType := fun k => match k with
  | 0 => .object "AnimationController$State"
  | 1 => .object "AnimationController$State"
  | 2 => .int
  | 3 => .int
  | 4 => .int
  | 5 => .int
  | 6 => .boolean
  | 7 => .array (.object "AnimationController$Condition")
  | _ => .int
abbrev wsX140 : List Cond := u_ws RX14 TX14 9
theorem nmX14 : ∀ a, a < 9 → ∀ b, b < 9 → a ≠ b → (TX14 a).2.1 ≠ (TX14 b).2.1 := by decide +kernel
theorem tyX14_ok : ∀ k, k < 9 → parseFieldDescriptor (TX14 k).2.2.1 = some (tyX14 k) := by decide +kernel
abbrev cX14_init : ByteArray := prog_17_method_1_code
def yX14_init : MethodName := ⟨RX14, "<init>", "(LAnimationController$State;LAnimationController$State;I)V"⟩
def dkwX14_init_1 : List UInt8 := [181, 0, 25, 42, 29, 181, 0, 28, 177]
abbrev dktX14_init_1 : List UInt8 := dkwX14_init_1 ++ []
def dkwX14_init_0 : List UInt8 := [42, 183, 0, 3, 42, 6, 189, 0, 9, 181, 0, 11, 42, 2, 181, 0, 17, 42, 43, 181, 0, 21, 42, 44]
abbrev dktX14_init_0 : List UInt8 := dkwX14_init_0 ++ dktX14_init_1
theorem dksX14_init_0 : cX14_init.data.toList.drop 0 = dktX14_init_0 := by decide +kernel
theorem dksX14_init_1 : cX14_init.data.toList.drop 24 = dktX14_init_1 := dk_seg dksX14_init_0 24 rfl rfl
theorem dX14_init_0 : decode cX14_init 0 = .ok (.aload_n 0, 1) := dk_42 (dk_at dksX14_init_0 0 rfl rfl)
theorem dX14_init_1 : decode cX14_init 1 = .ok (.invokespecial 3, 3) := dk_183 0 3 (dk_at dksX14_init_0 1 rfl rfl)
theorem dX14_init_4 : decode cX14_init 4 = .ok (.aload_n 0, 1) := dk_42 (dk_at dksX14_init_0 4 rfl rfl)
theorem dX14_init_5 : decode cX14_init 5 = .ok (.iconst 3, 1) := dk_6 (dk_at dksX14_init_0 5 rfl rfl)
theorem dX14_init_6 : decode cX14_init 6 = .ok (.anewarray 9, 3) := dk_189 0 9 (dk_at dksX14_init_0 6 rfl rfl)
theorem dX14_init_9 : decode cX14_init 9 = .ok (.putfield 11, 3) := dk_181 0 11 (dk_at dksX14_init_0 9 rfl rfl)
theorem dX14_init_12 : decode cX14_init 12 = .ok (.aload_n 0, 1) := dk_42 (dk_at dksX14_init_0 12 rfl rfl)
theorem dX14_init_13 : decode cX14_init 13 = .ok (.iconst (-1), 1) := dk_2 (dk_at dksX14_init_0 13 rfl rfl)
theorem dX14_init_14 : decode cX14_init 14 = .ok (.putfield 17, 3) := dk_181 0 17 (dk_at dksX14_init_0 14 rfl rfl)
theorem dX14_init_17 : decode cX14_init 17 = .ok (.aload_n 0, 1) := dk_42 (dk_at dksX14_init_0 17 rfl rfl)
theorem dX14_init_18 : decode cX14_init 18 = .ok (.aload_n 1, 1) := dk_43 (dk_at dksX14_init_0 18 rfl rfl)
theorem dX14_init_19 : decode cX14_init 19 = .ok (.putfield 21, 3) := dk_181 0 21 (dk_at dksX14_init_0 19 rfl rfl)
theorem dX14_init_22 : decode cX14_init 22 = .ok (.aload_n 0, 1) := dk_42 (dk_at dksX14_init_0 22 rfl rfl)
theorem dX14_init_23 : decode cX14_init 23 = .ok (.aload_n 2, 1) := dk_44 (dk_at dksX14_init_0 23 rfl rfl)
theorem dX14_init_24 : decode cX14_init 24 = .ok (.putfield 25, 3) := dk_181 0 25 (dk_at dksX14_init_1 0 rfl rfl)
theorem dX14_init_27 : decode cX14_init 27 = .ok (.aload_n 0, 1) := dk_42 (dk_at dksX14_init_1 3 rfl rfl)
theorem dX14_init_28 : decode cX14_init 28 = .ok (.iload_n 3, 1) := dk_29 (dk_at dksX14_init_1 4 rfl rfl)
theorem dX14_init_29 : decode cX14_init 29 = .ok (.putfield 28, 3) := dk_181 0 28 (dk_at dksX14_init_1 5 rfl rfl)
theorem dX14_init_32 : decode cX14_init 32 = .ok (.return_, 1) := dk_177 (dk_at dksX14_init_1 8 rfl rfl)
abbrev cX14_add : ByteArray := prog_17_method_2_code
def yX14_add : MethodName := ⟨RX14, "add", "(LAnimationController$Condition;)V"⟩
def dkwX14_add_0 : List UInt8 := [42, 180, 0, 11, 42, 180, 0, 31, 43, 83, 42, 89, 180, 0, 31, 4, 96, 181, 0, 31, 177]
abbrev dktX14_add_0 : List UInt8 := dkwX14_add_0 ++ []
theorem dksX14_add_0 : cX14_add.data.toList.drop 0 = dktX14_add_0 := by decide +kernel
theorem dX14_add_0 : decode cX14_add 0 = .ok (.aload_n 0, 1) := dk_42 (dk_at dksX14_add_0 0 rfl rfl)
theorem dX14_add_1 : decode cX14_add 1 = .ok (.getfield 11, 3) := dk_180 0 11 (dk_at dksX14_add_0 1 rfl rfl)
theorem dX14_add_4 : decode cX14_add 4 = .ok (.aload_n 0, 1) := dk_42 (dk_at dksX14_add_0 4 rfl rfl)
theorem dX14_add_5 : decode cX14_add 5 = .ok (.getfield 31, 3) := dk_180 0 31 (dk_at dksX14_add_0 5 rfl rfl)
theorem dX14_add_8 : decode cX14_add 8 = .ok (.aload_n 1, 1) := dk_43 (dk_at dksX14_add_0 8 rfl rfl)
theorem dX14_add_9 : decode cX14_add 9 = .ok (.aastore, 1) := dk_83 (dk_at dksX14_add_0 9 rfl rfl)
theorem dX14_add_10 : decode cX14_add 10 = .ok (.aload_n 0, 1) := dk_42 (dk_at dksX14_add_0 10 rfl rfl)
theorem dX14_add_11 : decode cX14_add 11 = .ok (.dup, 1) := dk_89 (dk_at dksX14_add_0 11 rfl rfl)
theorem dX14_add_12 : decode cX14_add 12 = .ok (.getfield 31, 3) := dk_180 0 31 (dk_at dksX14_add_0 12 rfl rfl)
theorem dX14_add_15 : decode cX14_add 15 = .ok (.iconst 1, 1) := dk_4 (dk_at dksX14_add_0 15 rfl rfl)
theorem dX14_add_16 : decode cX14_add 16 = .ok (.iadd, 1) := dk_96 (dk_at dksX14_add_0 16 rfl rfl)
theorem dX14_add_17 : decode cX14_add 17 = .ok (.putfield 31, 3) := dk_181 0 31 (dk_at dksX14_add_0 17 rfl rfl)
theorem dX14_add_20 : decode cX14_add 20 = .ok (.return_, 1) := dk_177 (dk_at dksX14_add_0 20 rfl rfl)
abbrev cX14_failing : ByteArray := prog_17_method_3_code
def yX14_failing : MethodName := ⟨RX14, "failing", "()I"⟩
def dkwX14_failing_1 : List UInt8 := [132, 1, 1, 167, 255, 231, 2, 172]
abbrev dktX14_failing_1 : List UInt8 := dkwX14_failing_1 ++ []
def dkwX14_failing_0 : List UInt8 := [3, 60, 27, 42, 180, 0, 31, 162, 0, 23, 42, 180, 0, 11, 27, 50, 182, 0, 34, 154, 0, 5, 27, 172]
abbrev dktX14_failing_0 : List UInt8 := dkwX14_failing_0 ++ dktX14_failing_1
theorem dksX14_failing_0 : cX14_failing.data.toList.drop 0 = dktX14_failing_0 := by decide +kernel
theorem dksX14_failing_1 : cX14_failing.data.toList.drop 24 = dktX14_failing_1 := dk_seg dksX14_failing_0 24 rfl rfl
theorem dX14_failing_0 : decode cX14_failing 0 = .ok (.iconst 0, 1) := dk_3 (dk_at dksX14_failing_0 0 rfl rfl)
theorem dX14_failing_1 : decode cX14_failing 1 = .ok (.istore_n 1, 1) := dk_60 (dk_at dksX14_failing_0 1 rfl rfl)
theorem dX14_failing_2 : decode cX14_failing 2 = .ok (.iload_n 1, 1) := dk_27 (dk_at dksX14_failing_0 2 rfl rfl)
theorem dX14_failing_3 : decode cX14_failing 3 = .ok (.aload_n 0, 1) := dk_42 (dk_at dksX14_failing_0 3 rfl rfl)
theorem dX14_failing_4 : decode cX14_failing 4 = .ok (.getfield 31, 3) := dk_180 0 31 (dk_at dksX14_failing_0 4 rfl rfl)
theorem dX14_failing_7 : decode cX14_failing 7 = .ok (.if_icmp .ge 23, 3) := dk_162 0 23 (dk_at dksX14_failing_0 7 rfl rfl)
theorem dX14_failing_10 : decode cX14_failing 10 = .ok (.aload_n 0, 1) := dk_42 (dk_at dksX14_failing_0 10 rfl rfl)
theorem dX14_failing_11 : decode cX14_failing 11 = .ok (.getfield 11, 3) := dk_180 0 11 (dk_at dksX14_failing_0 11 rfl rfl)
theorem dX14_failing_14 : decode cX14_failing 14 = .ok (.iload_n 1, 1) := dk_27 (dk_at dksX14_failing_0 14 rfl rfl)
theorem dX14_failing_15 : decode cX14_failing 15 = .ok (.aaload, 1) := dk_50 (dk_at dksX14_failing_0 15 rfl rfl)
theorem dX14_failing_16 : decode cX14_failing 16 = .ok (.invokevirtual 34, 3) := dk_182 0 34 (dk_at dksX14_failing_0 16 rfl rfl)
theorem dX14_failing_19 : decode cX14_failing 19 = .ok (.ifCond .ne 5, 3) := dk_154 0 5 (dk_at dksX14_failing_0 19 rfl rfl)
theorem dX14_failing_22 : decode cX14_failing 22 = .ok (.iload_n 1, 1) := dk_27 (dk_at dksX14_failing_0 22 rfl rfl)
theorem dX14_failing_23 : decode cX14_failing 23 = .ok (.ireturn, 1) := dk_172 (dk_at dksX14_failing_0 23 rfl rfl)
theorem dX14_failing_24 : decode cX14_failing 24 = .ok (.iinc 1 1, 3) := dk_132 1 1 (dk_at dksX14_failing_1 0 rfl rfl)
theorem dX14_failing_27 : decode cX14_failing 27 = .ok (.goto (-25), 3) := dk_167 255 231 (dk_at dksX14_failing_1 3 rfl rfl)
theorem dX14_failing_30 : decode cX14_failing 30 = .ok (.iconst (-1), 1) := dk_2 (dk_at dksX14_failing_1 6 rfl rfl)
theorem dX14_failing_31 : decode cX14_failing 31 = .ok (.ireturn, 1) := dk_172 (dk_at dksX14_failing_1 7 rfl rfl)
abbrev cX14_resetTriggers : ByteArray := prog_17_method_4_code
def yX14_resetTriggers : MethodName := ⟨RX14, "resetTriggers", "()V"⟩
def dkwX14_resetTriggers_2 : List UInt8 := [177]
abbrev dktX14_resetTriggers_2 : List UInt8 := dkwX14_resetTriggers_2 ++ []
def dkwX14_resetTriggers_1 : List UInt8 := [180, 0, 42, 5, 160, 0, 7, 3, 167, 0, 7, 44, 180, 0, 47, 181, 0, 47, 132, 1, 1, 167, 255, 215]
abbrev dktX14_resetTriggers_1 : List UInt8 := dkwX14_resetTriggers_1 ++ dktX14_resetTriggers_2
def dkwX14_resetTriggers_0 : List UInt8 := [3, 60, 27, 42, 180, 0, 31, 162, 0, 39, 42, 180, 0, 11, 27, 50, 180, 0, 38, 77, 44, 44]
abbrev dktX14_resetTriggers_0 : List UInt8 := dkwX14_resetTriggers_0 ++ dktX14_resetTriggers_1
theorem dksX14_resetTriggers_0 : cX14_resetTriggers.data.toList.drop 0 = dktX14_resetTriggers_0 := by decide +kernel
theorem dksX14_resetTriggers_1 : cX14_resetTriggers.data.toList.drop 22 = dktX14_resetTriggers_1 := dk_seg dksX14_resetTriggers_0 22 rfl rfl
theorem dksX14_resetTriggers_2 : cX14_resetTriggers.data.toList.drop 46 = dktX14_resetTriggers_2 := dk_seg dksX14_resetTriggers_1 24 rfl rfl
theorem dX14_resetTriggers_0 : decode cX14_resetTriggers 0 = .ok (.iconst 0, 1) := dk_3 (dk_at dksX14_resetTriggers_0 0 rfl rfl)
theorem dX14_resetTriggers_1 : decode cX14_resetTriggers 1 = .ok (.istore_n 1, 1) := dk_60 (dk_at dksX14_resetTriggers_0 1 rfl rfl)
theorem dX14_resetTriggers_2 : decode cX14_resetTriggers 2 = .ok (.iload_n 1, 1) := dk_27 (dk_at dksX14_resetTriggers_0 2 rfl rfl)
theorem dX14_resetTriggers_3 : decode cX14_resetTriggers 3 = .ok (.aload_n 0, 1) := dk_42 (dk_at dksX14_resetTriggers_0 3 rfl rfl)
theorem dX14_resetTriggers_4 : decode cX14_resetTriggers 4 = .ok (.getfield 31, 3) := dk_180 0 31 (dk_at dksX14_resetTriggers_0 4 rfl rfl)
theorem dX14_resetTriggers_7 : decode cX14_resetTriggers 7 = .ok (.if_icmp .ge 39, 3) := dk_162 0 39 (dk_at dksX14_resetTriggers_0 7 rfl rfl)
theorem dX14_resetTriggers_10 : decode cX14_resetTriggers 10 = .ok (.aload_n 0, 1) := dk_42 (dk_at dksX14_resetTriggers_0 10 rfl rfl)
theorem dX14_resetTriggers_11 : decode cX14_resetTriggers 11 = .ok (.getfield 11, 3) := dk_180 0 11 (dk_at dksX14_resetTriggers_0 11 rfl rfl)
theorem dX14_resetTriggers_14 : decode cX14_resetTriggers 14 = .ok (.iload_n 1, 1) := dk_27 (dk_at dksX14_resetTriggers_0 14 rfl rfl)
theorem dX14_resetTriggers_15 : decode cX14_resetTriggers 15 = .ok (.aaload, 1) := dk_50 (dk_at dksX14_resetTriggers_0 15 rfl rfl)
theorem dX14_resetTriggers_16 : decode cX14_resetTriggers 16 = .ok (.getfield 38, 3) := dk_180 0 38 (dk_at dksX14_resetTriggers_0 16 rfl rfl)
theorem dX14_resetTriggers_19 : decode cX14_resetTriggers 19 = .ok (.astore_n 2, 1) := dk_77 (dk_at dksX14_resetTriggers_0 19 rfl rfl)
theorem dX14_resetTriggers_20 : decode cX14_resetTriggers 20 = .ok (.aload_n 2, 1) := dk_44 (dk_at dksX14_resetTriggers_0 20 rfl rfl)
theorem dX14_resetTriggers_21 : decode cX14_resetTriggers 21 = .ok (.aload_n 2, 1) := dk_44 (dk_at dksX14_resetTriggers_0 21 rfl rfl)
theorem dX14_resetTriggers_22 : decode cX14_resetTriggers 22 = .ok (.getfield 42, 3) := dk_180 0 42 (dk_at dksX14_resetTriggers_1 0 rfl rfl)
theorem dX14_resetTriggers_25 : decode cX14_resetTriggers 25 = .ok (.iconst 2, 1) := dk_5 (dk_at dksX14_resetTriggers_1 3 rfl rfl)
theorem dX14_resetTriggers_26 : decode cX14_resetTriggers 26 = .ok (.if_icmp .ne 7, 3) := dk_160 0 7 (dk_at dksX14_resetTriggers_1 4 rfl rfl)
theorem dX14_resetTriggers_29 : decode cX14_resetTriggers 29 = .ok (.iconst 0, 1) := dk_3 (dk_at dksX14_resetTriggers_1 7 rfl rfl)
theorem dX14_resetTriggers_30 : decode cX14_resetTriggers 30 = .ok (.goto 7, 3) := dk_167 0 7 (dk_at dksX14_resetTriggers_1 8 rfl rfl)
theorem dX14_resetTriggers_33 : decode cX14_resetTriggers 33 = .ok (.aload_n 2, 1) := dk_44 (dk_at dksX14_resetTriggers_1 11 rfl rfl)
theorem dX14_resetTriggers_34 : decode cX14_resetTriggers 34 = .ok (.getfield 47, 3) := dk_180 0 47 (dk_at dksX14_resetTriggers_1 12 rfl rfl)
theorem dX14_resetTriggers_37 : decode cX14_resetTriggers 37 = .ok (.putfield 47, 3) := dk_181 0 47 (dk_at dksX14_resetTriggers_1 15 rfl rfl)
theorem dX14_resetTriggers_40 : decode cX14_resetTriggers 40 = .ok (.iinc 1 1, 3) := dk_132 1 1 (dk_at dksX14_resetTriggers_1 18 rfl rfl)
theorem dX14_resetTriggers_43 : decode cX14_resetTriggers 43 = .ok (.goto (-41), 3) := dk_167 255 215 (dk_at dksX14_resetTriggers_1 21 rfl rfl)
theorem dX14_resetTriggers_46 : decode cX14_resetTriggers 46 = .ok (.return_, 1) := dk_177 (dk_at dksX14_resetTriggers_2 0 rfl rfl)
theorem q147 : (Jvm.Cond.initialized "AnimationController$Transition") ∈ lw_all := lw_g (lw_at lw_m1 40 rfl) rfl
theorem q1039 : (Jvm.Cond.instantiable "AnimationController$Transition" (9 : Nat)) ∈ lw_all := lw_g (lw_at lw_m4 212 rfl) rfl
theorem q1041 : (Jvm.Cond.instanceMethod ({ cls := "AnimationController$Transition", name := "<init>", desc := "(LAnimationController$State;LAnimationController$State;I)V" } : Jvm.MethodName)) ∈ lw_all := lw_g (lw_at lw_m4 214 rfl) rfl
theorem q1042 : (Jvm.Cond.code ({ cls := "AnimationController$Transition", name := "<init>", desc := "(LAnimationController$State;LAnimationController$State;I)V" } : Jvm.MethodName) prog_17_method_1_code (4 : Nat) (Option.none : Option Jvm.ClassFile.FieldType)) ∈ lw_all := lw_g (lw_at lw_m4 215 rfl) rfl
theorem q1043 : (Jvm.Cond.methodLink "AnimationController$Transition" (3 : Nat) ({ cls := "java/lang/Object", name := "<init>", desc := "()V" } : Jvm.MethodName)) ∈ lw_all := lw_g (lw_at lw_m4 216 rfl) rfl
theorem q1044 : (Jvm.Cond.classLink "AnimationController$Transition" (9 : Nat) "AnimationController$Condition") ∈ lw_all := lw_g (lw_at lw_m4 217 rfl) rfl
theorem q1046 : (Jvm.Cond.fieldLink "AnimationController$Transition" (21 : Nat) "AnimationController$Transition" "from" "LAnimationController$State;") ∈ lw_all := lw_g (lw_at lw_m4 219 rfl) rfl
theorem q1050 : (Jvm.Cond.fieldLink "AnimationController$Transition" (25 : Nat) "AnimationController$Transition" "to" "LAnimationController$State;") ∈ lw_all := lw_g (lw_at lw_m4 223 rfl) rfl
theorem q1053 : (Jvm.Cond.fieldLink "AnimationController$Transition" (28 : Nat) "AnimationController$Transition" "duration" "I") ∈ lw_all := lw_g (lw_at lw_m4 226 rfl) rfl
theorem q1055 : (Jvm.Cond.fieldLink "AnimationController$Transition" (17 : Nat) "AnimationController$Transition" "exit" "I") ∈ lw_all := lw_g (lw_at lw_m4 228 rfl) rfl
theorem q1068 : (Jvm.Cond.fieldLink "AnimationController$Transition" (11 : Nat) "AnimationController$Transition" "conditions" "[LAnimationController$Condition;") ∈ lw_all := lw_g (lw_at lw_m5 1 rfl) rfl
theorem q1069 : (Jvm.Cond.fieldLink "AnimationController$Transition" (31 : Nat) "AnimationController$Transition" "many" "I") ∈ lw_all := lw_g (lw_at lw_m5 2 rfl) rfl
theorem q1072 : (Jvm.Cond.laysFinal "AnimationController$Transition" "AnimationController$Transition" "from" "LAnimationController$State;") ∈ lw_all := lw_g (lw_at lw_m5 5 rfl) rfl
theorem q1073 : (Jvm.Cond.soleField "AnimationController$Transition" "from") ∈ lw_all := lw_g (lw_at lw_m5 6 rfl) rfl
theorem q1074 : (Jvm.Cond.laysFinal "AnimationController$Transition" "AnimationController$Transition" "to" "LAnimationController$State;") ∈ lw_all := lw_g (lw_at lw_m5 7 rfl) rfl
theorem q1075 : (Jvm.Cond.soleField "AnimationController$Transition" "to") ∈ lw_all := lw_g (lw_at lw_m5 8 rfl) rfl
theorem q1076 : (Jvm.Cond.laysFinal "AnimationController$Transition" "AnimationController$Transition" "duration" "I") ∈ lw_all := lw_g (lw_at lw_m5 9 rfl) rfl
theorem q1077 : (Jvm.Cond.soleField "AnimationController$Transition" "duration") ∈ lw_all := lw_g (lw_at lw_m5 10 rfl) rfl
theorem q1078 : (Jvm.Cond.lays "AnimationController$Transition" "AnimationController$Transition" "exit" "I") ∈ lw_all := lw_g (lw_at lw_m5 11 rfl) rfl
theorem q1079 : (Jvm.Cond.soleField "AnimationController$Transition" "exit") ∈ lw_all := lw_g (lw_at lw_m5 12 rfl) rfl
theorem q1080 : (Jvm.Cond.lays "AnimationController$Transition" "AnimationController$Transition" "start" "I") ∈ lw_all := lw_g (lw_at lw_m5 13 rfl) rfl
theorem q1081 : (Jvm.Cond.soleField "AnimationController$Transition" "start") ∈ lw_all := lw_g (lw_at lw_m5 14 rfl) rfl
theorem q1082 : (Jvm.Cond.lays "AnimationController$Transition" "AnimationController$Transition" "mode" "I") ∈ lw_all := lw_g (lw_at lw_m5 15 rfl) rfl
theorem q1083 : (Jvm.Cond.soleField "AnimationController$Transition" "mode") ∈ lw_all := lw_g (lw_at lw_m5 16 rfl) rfl
theorem q1084 : (Jvm.Cond.lays "AnimationController$Transition" "AnimationController$Transition" "isOrdered" "Z") ∈ lw_all := lw_g (lw_at lw_m5 17 rfl) rfl
theorem q1085 : (Jvm.Cond.soleField "AnimationController$Transition" "isOrdered") ∈ lw_all := lw_g (lw_at lw_m5 18 rfl) rfl
theorem q1086 : (Jvm.Cond.laysFinal "AnimationController$Transition" "AnimationController$Transition" "conditions" "[LAnimationController$Condition;") ∈ lw_all := lw_g (lw_at lw_m5 19 rfl) rfl
theorem q1087 : (Jvm.Cond.soleField "AnimationController$Transition" "conditions") ∈ lw_all := lw_g (lw_at lw_m5 20 rfl) rfl
theorem q1088 : (Jvm.Cond.lays "AnimationController$Transition" "AnimationController$Transition" "many" "I") ∈ lw_all := lw_g (lw_at lw_m5 21 rfl) rfl
theorem q1089 : (Jvm.Cond.soleField "AnimationController$Transition" "many") ∈ lw_all := lw_g (lw_at lw_m5 22 rfl) rfl
theorem q1090 : (Jvm.Cond.superclass "AnimationController$Transition" "java/lang/Object") ∈ lw_all := lw_g (lw_at lw_m5 23 rfl) rfl
theorem q1128 : (Jvm.Cond.selects "AnimationController$Transition" ({ cls := "java/lang/Object", name := "getClass", desc := "()Ljava/lang/Class;" } : Jvm.MethodName) ({ cls := "java/lang/Object", name := "getClass", desc := "()Ljava/lang/Class;" } : Jvm.MethodName)) ∈ lw_all := lw_g (lw_at lw_m5 61 rfl) rfl
theorem q1288 : (Jvm.Cond.selects "AnimationController$Transition" ({ cls := "java/lang/Object", name := "hashCode", desc := "()I" } : Jvm.MethodName) ({ cls := "java/lang/Object", name := "hashCode", desc := "()I" } : Jvm.MethodName)) ∈ lw_all := lw_g (lw_at lw_m5 221 rfl) rfl
theorem q1385 : (Jvm.Cond.selects "AnimationController$Transition" ({ cls := "java/lang/Object", name := "equals", desc := "(Ljava/lang/Object;)Z" } : Jvm.MethodName) ({ cls := "java/lang/Object", name := "equals", desc := "(Ljava/lang/Object;)Z" } : Jvm.MethodName)) ∈ lw_all := lw_g (lw_at lw_m6 78 rfl) rfl
theorem q1883 : (Jvm.Cond.fieldLinkNest "AnimationController$Transition" (38 : Nat) "AnimationController$Condition" "parameter" "LAnimationController$Parameter;" "AnimationController") ∈ lw_tbl := lw_at lw_m8 96 rfl
theorem q1891 : (Jvm.Cond.instanceMethod ({ cls := "AnimationController$Transition", name := "add", desc := "(LAnimationController$Condition;)V" } : Jvm.MethodName)) ∈ lw_all := lw_g (lw_at lw_m8 104 rfl) rfl
theorem q1892 : (Jvm.Cond.selects "AnimationController$Transition" ({ cls := "AnimationController$Transition", name := "add", desc := "(LAnimationController$Condition;)V" } : Jvm.MethodName) ({ cls := "AnimationController$Transition", name := "add", desc := "(LAnimationController$Condition;)V" } : Jvm.MethodName)) ∈ lw_all := lw_g (lw_at lw_m8 105 rfl) rfl
theorem q1893 : (Jvm.Cond.code ({ cls := "AnimationController$Transition", name := "add", desc := "(LAnimationController$Condition;)V" } : Jvm.MethodName) prog_17_method_2_code (2 : Nat) (Option.none : Option Jvm.ClassFile.FieldType)) ∈ lw_all := lw_g (lw_at lw_m8 106 rfl) rfl
theorem q1948 : (Jvm.Cond.fieldLinkNest "AnimationController$Transition" (42 : Nat) "AnimationController$Parameter" "kind" "I" "AnimationController") ∈ lw_tbl := lw_at lw_m8 161 rfl
theorem q1952 : (Jvm.Cond.fieldLinkNest "AnimationController$Transition" (47 : Nat) "AnimationController$Parameter" "value" "I" "AnimationController") ∈ lw_tbl := lw_at lw_m8 165 rfl
theorem q2367 : (Jvm.Cond.instanceMethod ({ cls := "AnimationController$Transition", name := "failing", desc := "()I" } : Jvm.MethodName)) ∈ lw_all := lw_g (lw_at lw_m10 100 rfl) rfl
theorem q2368 : (Jvm.Cond.selects "AnimationController$Transition" ({ cls := "AnimationController$Transition", name := "failing", desc := "()I" } : Jvm.MethodName) ({ cls := "AnimationController$Transition", name := "failing", desc := "()I" } : Jvm.MethodName)) ∈ lw_all := lw_g (lw_at lw_m10 101 rfl) rfl
theorem q2369 : (Jvm.Cond.code ({ cls := "AnimationController$Transition", name := "failing", desc := "()I" } : Jvm.MethodName) prog_17_method_3_code (2 : Nat) (Option.some Jvm.ClassFile.FieldType.int)) ∈ lw_all := lw_g (lw_at lw_m10 102 rfl) rfl
theorem q2370 : (Jvm.Cond.methodLink "AnimationController$Transition" (34 : Nat) ({ cls := "AnimationController$Condition", name := "holds", desc := "()Z" } : Jvm.MethodName)) ∈ lw_all := lw_g (lw_at lw_m10 103 rfl) rfl
theorem q2383 : (Jvm.Cond.instanceMethod ({ cls := "AnimationController$Transition", name := "resetTriggers", desc := "()V" } : Jvm.MethodName)) ∈ lw_all := lw_g (lw_at lw_m10 116 rfl) rfl
theorem q2384 : (Jvm.Cond.selects "AnimationController$Transition" ({ cls := "AnimationController$Transition", name := "resetTriggers", desc := "()V" } : Jvm.MethodName) ({ cls := "AnimationController$Transition", name := "resetTriggers", desc := "()V" } : Jvm.MethodName)) ∈ lw_all := lw_g (lw_at lw_m10 117 rfl) rfl
theorem q2385 : (Jvm.Cond.code ({ cls := "AnimationController$Transition", name := "resetTriggers", desc := "()V" } : Jvm.MethodName) prog_17_method_4_code (3 : Nat) (Option.none : Option Jvm.ClassFile.FieldType)) ∈ lw_all := lw_g (lw_at lw_m10 118 rfl) rfl
theorem q3312 : (Jvm.Cond.castable "AnimationController$Transition" "java/lang/Object") ∈ lw_tbl := lw_at lw_m14 85 rfl
theorem in_X14 : ∀ w ∈ wsX140, w ∈ lw_all := lw_in wsX140 [1072, 1074, 1076, 1078, 1080, 1082, 1084, 1086, 1088] (by decide +kernel) (by decide +kernel)

/-! AnimationController$Condition -/
set_option maxRecDepth 100000
def RX15 : String := "AnimationController$Condition"
def TX15 : u_T := fun k => match k with
  | 0 => ("AnimationController$Condition", "parameter", "LAnimationController$Parameter;", true)
  | _ => ("AnimationController$Condition", "test", "LAnimationController$Test;", true)
def tyX15 : Nat → FieldType := fun k => match k with
  | 0 => .object "AnimationController$Parameter"
  | _ => .object "AnimationController$Test"
abbrev wsX150 : List Cond := u_ws RX15 TX15 2
theorem nmX15 : ∀ a, a < 2 → ∀ b, b < 2 → a ≠ b → (TX15 a).2.1 ≠ (TX15 b).2.1 := by decide +kernel
theorem tyX15_ok : ∀ k, k < 2 → parseFieldDescriptor (TX15 k).2.2.1 = some (tyX15 k) := by decide +kernel
abbrev cX15_init : ByteArray := prog_5_method_1_code
def yX15_init : MethodName := ⟨RX15, "<init>", "(LAnimationController$Parameter;LAnimationController$Test;)V"⟩
def dkwX15_init_0 : List UInt8 := [42, 183, 0, 1, 42, 43, 181, 0, 7, 42, 44, 181, 0, 13, 177]
abbrev dktX15_init_0 : List UInt8 := dkwX15_init_0 ++ []
theorem dksX15_init_0 : cX15_init.data.toList.drop 0 = dktX15_init_0 := by decide +kernel
theorem dX15_init_0 : decode cX15_init 0 = .ok (.aload_n 0, 1) := dk_42 (dk_at dksX15_init_0 0 rfl rfl)
theorem dX15_init_1 : decode cX15_init 1 = .ok (.invokespecial 1, 3) := dk_183 0 1 (dk_at dksX15_init_0 1 rfl rfl)
theorem dX15_init_4 : decode cX15_init 4 = .ok (.aload_n 0, 1) := dk_42 (dk_at dksX15_init_0 4 rfl rfl)
theorem dX15_init_5 : decode cX15_init 5 = .ok (.aload_n 1, 1) := dk_43 (dk_at dksX15_init_0 5 rfl rfl)
theorem dX15_init_6 : decode cX15_init 6 = .ok (.putfield 7, 3) := dk_181 0 7 (dk_at dksX15_init_0 6 rfl rfl)
theorem dX15_init_9 : decode cX15_init 9 = .ok (.aload_n 0, 1) := dk_42 (dk_at dksX15_init_0 9 rfl rfl)
theorem dX15_init_10 : decode cX15_init 10 = .ok (.aload_n 2, 1) := dk_44 (dk_at dksX15_init_0 10 rfl rfl)
theorem dX15_init_11 : decode cX15_init 11 = .ok (.putfield 13, 3) := dk_181 0 13 (dk_at dksX15_init_0 11 rfl rfl)
theorem dX15_init_14 : decode cX15_init 14 = .ok (.return_, 1) := dk_177 (dk_at dksX15_init_0 14 rfl rfl)
abbrev cX15_holds : ByteArray := prog_5_method_2_code
def yX15_holds : MethodName := ⟨RX15, "holds", "()Z"⟩
def dkwX15_holds_0 : List UInt8 := [42, 180, 0, 13, 42, 180, 0, 7, 180, 0, 17, 185, 0, 23, 2, 0, 172]
abbrev dktX15_holds_0 : List UInt8 := dkwX15_holds_0 ++ []
theorem dksX15_holds_0 : cX15_holds.data.toList.drop 0 = dktX15_holds_0 := by decide +kernel
theorem dX15_holds_0 : decode cX15_holds 0 = .ok (.aload_n 0, 1) := dk_42 (dk_at dksX15_holds_0 0 rfl rfl)
theorem dX15_holds_1 : decode cX15_holds 1 = .ok (.getfield 13, 3) := dk_180 0 13 (dk_at dksX15_holds_0 1 rfl rfl)
theorem dX15_holds_4 : decode cX15_holds 4 = .ok (.aload_n 0, 1) := dk_42 (dk_at dksX15_holds_0 4 rfl rfl)
theorem dX15_holds_5 : decode cX15_holds 5 = .ok (.getfield 7, 3) := dk_180 0 7 (dk_at dksX15_holds_0 5 rfl rfl)
theorem dX15_holds_8 : decode cX15_holds 8 = .ok (.getfield 17, 3) := dk_180 0 17 (dk_at dksX15_holds_0 8 rfl rfl)
theorem dX15_holds_11 : decode cX15_holds 11 = .ok (.invokeinterface 23 2, 5) := by decide +kernel
theorem dX15_holds_16 : decode cX15_holds 16 = .ok (.ireturn, 1) := dk_172 (dk_at dksX15_holds_0 16 rfl rfl)
theorem q148 : (Jvm.Cond.initialized "AnimationController$Condition") ∈ lw_all := lw_g (lw_at lw_m1 41 rfl) rfl
theorem q1118 : (Jvm.Cond.selects "AnimationController$Condition" ({ cls := "java/lang/Object", name := "getClass", desc := "()Ljava/lang/Class;" } : Jvm.MethodName) ({ cls := "java/lang/Object", name := "getClass", desc := "()Ljava/lang/Class;" } : Jvm.MethodName)) ∈ lw_all := lw_g (lw_at lw_m5 51 rfl) rfl
theorem q1278 : (Jvm.Cond.selects "AnimationController$Condition" ({ cls := "java/lang/Object", name := "hashCode", desc := "()I" } : Jvm.MethodName) ({ cls := "java/lang/Object", name := "hashCode", desc := "()I" } : Jvm.MethodName)) ∈ lw_all := lw_g (lw_at lw_m5 211 rfl) rfl
theorem q1375 : (Jvm.Cond.selects "AnimationController$Condition" ({ cls := "java/lang/Object", name := "equals", desc := "(Ljava/lang/Object;)Z" } : Jvm.MethodName) ({ cls := "java/lang/Object", name := "equals", desc := "(Ljava/lang/Object;)Z" } : Jvm.MethodName)) ∈ lw_all := lw_g (lw_at lw_m6 68 rfl) rfl
theorem q1866 : (Jvm.Cond.instantiable "AnimationController$Condition" (2 : Nat)) ∈ lw_all := lw_g (lw_at lw_m8 79 rfl) rfl
theorem q1879 : (Jvm.Cond.instanceMethod ({ cls := "AnimationController$Condition", name := "<init>", desc := "(LAnimationController$Parameter;LAnimationController$Test;)V" } : Jvm.MethodName)) ∈ lw_all := lw_g (lw_at lw_m8 92 rfl) rfl
theorem q1880 : (Jvm.Cond.code ({ cls := "AnimationController$Condition", name := "<init>", desc := "(LAnimationController$Parameter;LAnimationController$Test;)V" } : Jvm.MethodName) prog_5_method_1_code (3 : Nat) (Option.none : Option Jvm.ClassFile.FieldType)) ∈ lw_all := lw_g (lw_at lw_m8 93 rfl) rfl
theorem q1881 : (Jvm.Cond.methodLink "AnimationController$Condition" (1 : Nat) ({ cls := "java/lang/Object", name := "<init>", desc := "()V" } : Jvm.MethodName)) ∈ lw_all := lw_g (lw_at lw_m8 94 rfl) rfl
theorem q1882 : (Jvm.Cond.fieldLink "AnimationController$Condition" (7 : Nat) "AnimationController$Condition" "parameter" "LAnimationController$Parameter;") ∈ lw_all := lw_g (lw_at lw_m8 95 rfl) rfl
theorem q1884 : (Jvm.Cond.fieldLink "AnimationController$Condition" (13 : Nat) "AnimationController$Condition" "test" "LAnimationController$Test;") ∈ lw_all := lw_g (lw_at lw_m8 97 rfl) rfl
theorem q1885 : (Jvm.Cond.laysFinal "AnimationController$Condition" "AnimationController$Condition" "parameter" "LAnimationController$Parameter;") ∈ lw_all := lw_g (lw_at lw_m8 98 rfl) rfl
theorem q1886 : (Jvm.Cond.soleField "AnimationController$Condition" "parameter") ∈ lw_all := lw_g (lw_at lw_m8 99 rfl) rfl
theorem q1887 : (Jvm.Cond.laysFinal "AnimationController$Condition" "AnimationController$Condition" "test" "LAnimationController$Test;") ∈ lw_all := lw_g (lw_at lw_m8 100 rfl) rfl
theorem q1888 : (Jvm.Cond.soleField "AnimationController$Condition" "test") ∈ lw_all := lw_g (lw_at lw_m8 101 rfl) rfl
theorem q1889 : (Jvm.Cond.superclass "AnimationController$Condition" "java/lang/Object") ∈ lw_all := lw_g (lw_at lw_m8 102 rfl) rfl
theorem q1951 : (Jvm.Cond.fieldLinkNest "AnimationController$Condition" (17 : Nat) "AnimationController$Parameter" "value" "I" "AnimationController") ∈ lw_tbl := lw_at lw_m8 164 rfl
theorem q2371 : (Jvm.Cond.instanceMethod ({ cls := "AnimationController$Condition", name := "holds", desc := "()Z" } : Jvm.MethodName)) ∈ lw_all := lw_g (lw_at lw_m10 104 rfl) rfl
theorem q2372 : (Jvm.Cond.selects "AnimationController$Condition" ({ cls := "AnimationController$Condition", name := "holds", desc := "()Z" } : Jvm.MethodName) ({ cls := "AnimationController$Condition", name := "holds", desc := "()Z" } : Jvm.MethodName)) ∈ lw_all := lw_g (lw_at lw_m10 105 rfl) rfl
theorem q2373 : (Jvm.Cond.code ({ cls := "AnimationController$Condition", name := "holds", desc := "()Z" } : Jvm.MethodName) prog_5_method_2_code (1 : Nat) (Option.some Jvm.ClassFile.FieldType.boolean)) ∈ lw_all := lw_g (lw_at lw_m10 106 rfl) rfl
theorem q2374 : (Jvm.Cond.interfaceEntry "AnimationController$Condition" (23 : Nat)) ∈ lw_tbl := lw_at lw_m10 107 rfl
theorem q2375 : (Jvm.Cond.methodLink "AnimationController$Condition" (23 : Nat) ({ cls := "AnimationController$Test", name := "holds", desc := "(I)Z" } : Jvm.MethodName)) ∈ lw_all := lw_g (lw_at lw_m10 108 rfl) rfl
theorem q3289 : (Jvm.Cond.castable "AnimationController$Condition" "java/lang/Object") ∈ lw_tbl := lw_at lw_m14 62 rfl
theorem in_X15 : ∀ w ∈ wsX150, w ∈ lw_all := lw_in wsX150 [1885, 1887] (by decide +kernel) (by decide +kernel)

/-! AnimationController$Reader -/
set_option maxRecDepth 100000
def RX16 : String := "AnimationController$Reader"
def TX16 : u_T := fun k => match k with
  | 0 => ("AnimationController$Reader", "found", "Ljava/util/ArrayList;", true)
  | 1 => ("AnimationController$Reader", "at", "I", false)
  | 2 => ("AnimationController$Reader", "number", "I", false)
  | _ => ("AnimationController$Reader", "this$0", "LAnimationController;", true)
def tyX16 : Nat → FieldType := fun k => match k with
  | 0 => .object "java/util/ArrayList"
  | 1 => .int
  | 2 => .int
  | _ => .object "AnimationController"
abbrev wsX160 : List Cond := u_ws RX16 TX16 4
theorem nmX16 : ∀ a, a < 4 → ∀ b, b < 4 → a ≠ b → (TX16 a).2.1 ≠ (TX16 b).2.1 := by decide +kernel
theorem tyX16_ok : ∀ k, k < 4 → parseFieldDescriptor (TX16 k).2.2.1 = some (tyX16 k) := by decide +kernel
abbrev cX16_init : ByteArray := prog_13_method_1_code
def yX16_init : MethodName := ⟨RX16, "<init>", "(LAnimationController;)V"⟩
def dkwX16_init_0 : List UInt8 := [42, 43, 181, 0, 3, 42, 183, 0, 9, 42, 187, 0, 15, 89, 183, 0, 17, 181, 0, 18, 177]
abbrev dktX16_init_0 : List UInt8 := dkwX16_init_0 ++ []
theorem dksX16_init_0 : cX16_init.data.toList.drop 0 = dktX16_init_0 := by decide +kernel
theorem dX16_init_0 : decode cX16_init 0 = .ok (.aload_n 0, 1) := dk_42 (dk_at dksX16_init_0 0 rfl rfl)
theorem dX16_init_1 : decode cX16_init 1 = .ok (.aload_n 1, 1) := dk_43 (dk_at dksX16_init_0 1 rfl rfl)
theorem dX16_init_2 : decode cX16_init 2 = .ok (.putfield 3, 3) := dk_181 0 3 (dk_at dksX16_init_0 2 rfl rfl)
theorem dX16_init_5 : decode cX16_init 5 = .ok (.aload_n 0, 1) := dk_42 (dk_at dksX16_init_0 5 rfl rfl)
theorem dX16_init_6 : decode cX16_init 6 = .ok (.invokespecial 9, 3) := dk_183 0 9 (dk_at dksX16_init_0 6 rfl rfl)
theorem dX16_init_9 : decode cX16_init 9 = .ok (.aload_n 0, 1) := dk_42 (dk_at dksX16_init_0 9 rfl rfl)
theorem dX16_init_10 : decode cX16_init 10 = .ok (.new 15, 3) := dk_187 0 15 (dk_at dksX16_init_0 10 rfl rfl)
theorem dX16_init_13 : decode cX16_init 13 = .ok (.dup, 1) := dk_89 (dk_at dksX16_init_0 13 rfl rfl)
theorem dX16_init_14 : decode cX16_init 14 = .ok (.invokespecial 17, 3) := dk_183 0 17 (dk_at dksX16_init_0 14 rfl rfl)
theorem dX16_init_17 : decode cX16_init 17 = .ok (.putfield 18, 3) := dk_181 0 18 (dk_at dksX16_init_0 17 rfl rfl)
theorem dX16_init_20 : decode cX16_init 20 = .ok (.return_, 1) := dk_177 (dk_at dksX16_init_0 20 rfl rfl)
abbrev cX16_readsAll : ByteArray := prog_13_method_12_code
def yX16_readsAll : MethodName := ⟨RX16, "readsAll", "()Z"⟩
def dkwX16_readsAll_1 : List UInt8 := [153, 0, 14, 42, 182, 0, 171, 153, 0, 7, 4, 167, 0, 4, 3, 60, 167, 255, 223, 27, 172]
abbrev dktX16_readsAll_1 : List UInt8 := dkwX16_readsAll_1 ++ []
def dkwX16_readsAll_0 : List UInt8 := [42, 182, 0, 171, 60, 27, 153, 0, 35, 42, 182, 0, 40, 155, 0, 28, 42, 16, 59, 182, 0, 75]
abbrev dktX16_readsAll_0 : List UInt8 := dkwX16_readsAll_0 ++ dktX16_readsAll_1
theorem dksX16_readsAll_0 : cX16_readsAll.data.toList.drop 0 = dktX16_readsAll_0 := by decide +kernel
theorem dksX16_readsAll_1 : cX16_readsAll.data.toList.drop 22 = dktX16_readsAll_1 := dk_seg dksX16_readsAll_0 22 rfl rfl
theorem dX16_readsAll_0 : decode cX16_readsAll 0 = .ok (.aload_n 0, 1) := dk_42 (dk_at dksX16_readsAll_0 0 rfl rfl)
theorem dX16_readsAll_1 : decode cX16_readsAll 1 = .ok (.invokevirtual 171, 3) := dk_182 0 171 (dk_at dksX16_readsAll_0 1 rfl rfl)
theorem dX16_readsAll_4 : decode cX16_readsAll 4 = .ok (.istore_n 1, 1) := dk_60 (dk_at dksX16_readsAll_0 4 rfl rfl)
theorem dX16_readsAll_5 : decode cX16_readsAll 5 = .ok (.iload_n 1, 1) := dk_27 (dk_at dksX16_readsAll_0 5 rfl rfl)
theorem dX16_readsAll_6 : decode cX16_readsAll 6 = .ok (.ifCond .eq 35, 3) := dk_153 0 35 (dk_at dksX16_readsAll_0 6 rfl rfl)
theorem dX16_readsAll_9 : decode cX16_readsAll 9 = .ok (.aload_n 0, 1) := dk_42 (dk_at dksX16_readsAll_0 9 rfl rfl)
theorem dX16_readsAll_10 : decode cX16_readsAll 10 = .ok (.invokevirtual 40, 3) := dk_182 0 40 (dk_at dksX16_readsAll_0 10 rfl rfl)
theorem dX16_readsAll_13 : decode cX16_readsAll 13 = .ok (.ifCond .lt 28, 3) := dk_155 0 28 (dk_at dksX16_readsAll_0 13 rfl rfl)
theorem dX16_readsAll_16 : decode cX16_readsAll 16 = .ok (.aload_n 0, 1) := dk_42 (dk_at dksX16_readsAll_0 16 rfl rfl)
theorem dX16_readsAll_17 : decode cX16_readsAll 17 = .ok (.bipush 59, 2) := dk_16 59 (dk_at dksX16_readsAll_0 17 rfl rfl)
theorem dX16_readsAll_19 : decode cX16_readsAll 19 = .ok (.invokevirtual 75, 3) := dk_182 0 75 (dk_at dksX16_readsAll_0 19 rfl rfl)
theorem dX16_readsAll_22 : decode cX16_readsAll 22 = .ok (.ifCond .eq 14, 3) := dk_153 0 14 (dk_at dksX16_readsAll_1 0 rfl rfl)
theorem dX16_readsAll_25 : decode cX16_readsAll 25 = .ok (.aload_n 0, 1) := dk_42 (dk_at dksX16_readsAll_1 3 rfl rfl)
theorem dX16_readsAll_26 : decode cX16_readsAll 26 = .ok (.invokevirtual 171, 3) := dk_182 0 171 (dk_at dksX16_readsAll_1 4 rfl rfl)
theorem dX16_readsAll_29 : decode cX16_readsAll 29 = .ok (.ifCond .eq 7, 3) := dk_153 0 7 (dk_at dksX16_readsAll_1 7 rfl rfl)
theorem dX16_readsAll_32 : decode cX16_readsAll 32 = .ok (.iconst 1, 1) := dk_4 (dk_at dksX16_readsAll_1 10 rfl rfl)
theorem dX16_readsAll_33 : decode cX16_readsAll 33 = .ok (.goto 4, 3) := dk_167 0 4 (dk_at dksX16_readsAll_1 11 rfl rfl)
theorem dX16_readsAll_36 : decode cX16_readsAll 36 = .ok (.iconst 0, 1) := dk_3 (dk_at dksX16_readsAll_1 14 rfl rfl)
theorem dX16_readsAll_37 : decode cX16_readsAll 37 = .ok (.istore_n 1, 1) := dk_60 (dk_at dksX16_readsAll_1 15 rfl rfl)
theorem dX16_readsAll_38 : decode cX16_readsAll 38 = .ok (.goto (-33), 3) := dk_167 255 223 (dk_at dksX16_readsAll_1 16 rfl rfl)
theorem dX16_readsAll_41 : decode cX16_readsAll 41 = .ok (.iload_n 1, 1) := dk_27 (dk_at dksX16_readsAll_1 19 rfl rfl)
theorem dX16_readsAll_42 : decode cX16_readsAll 42 = .ok (.ireturn, 1) := dk_172 (dk_at dksX16_readsAll_1 20 rfl rfl)
abbrev cX16_readsTransition : ByteArray := prog_13_method_11_code
def yX16_readsTransition : MethodName := ⟨RX16, "readsTransition", "()Z"⟩
def dkwX16_readsTransition_5 : List UInt8 := [25, 4, 182, 0, 167, 87, 42, 25, 4, 182, 0, 168, 172]
abbrev dktX16_readsTransition_5 : List UInt8 := dkwX16_readsTransition_5 ++ []
def dkwX16_readsTransition_4 : List UInt8 := [154, 0, 5, 3, 172, 187, 0, 95, 89, 44, 45, 42, 180, 0, 55, 183, 0, 164, 58, 4, 42, 180, 0, 18]
abbrev dktX16_readsTransition_4 : List UInt8 := dkwX16_readsTransition_4 ++ dktX16_readsTransition_5
def dkwX16_readsTransition_3 : List UInt8 := [182, 0, 160, 78, 45, 198, 0, 22, 42, 16, 47, 182, 0, 75, 153, 0, 13, 42, 3, 16, 60, 182, 0, 108]
abbrev dktX16_readsTransition_3 : List UInt8 := dkwX16_readsTransition_3 ++ dktX16_readsTransition_4
def dkwX16_readsTransition_2 : List UInt8 := [182, 0, 160, 77, 27, 154, 0, 7, 44, 198, 0, 12, 42, 16, 62, 182, 0, 75, 154, 0, 5, 3, 172, 42]
abbrev dktX16_readsTransition_2 : List UInt8 := dkwX16_readsTransition_2 ++ dktX16_readsTransition_3
def dkwX16_readsTransition_1 : List UInt8 := [16, 24, 160, 0, 5, 3, 172, 42, 16, 42, 182, 0, 75, 60, 27, 153, 0, 7, 1, 167, 0, 7, 42]
abbrev dktX16_readsTransition_1 : List UInt8 := dkwX16_readsTransition_1 ++ dktX16_readsTransition_2
def dkwX16_readsTransition_0 : List UInt8 := [42, 182, 0, 40, 87, 42, 180, 0, 3, 180, 0, 157, 182, 0, 61, 42, 180, 0, 18, 182, 0, 61, 96]
abbrev dktX16_readsTransition_0 : List UInt8 := dkwX16_readsTransition_0 ++ dktX16_readsTransition_1
theorem dksX16_readsTransition_0 : cX16_readsTransition.data.toList.drop 0 = dktX16_readsTransition_0 := by decide +kernel
theorem dksX16_readsTransition_1 : cX16_readsTransition.data.toList.drop 23 = dktX16_readsTransition_1 := dk_seg dksX16_readsTransition_0 23 rfl rfl
theorem dksX16_readsTransition_2 : cX16_readsTransition.data.toList.drop 46 = dktX16_readsTransition_2 := dk_seg dksX16_readsTransition_1 23 rfl rfl
theorem dksX16_readsTransition_3 : cX16_readsTransition.data.toList.drop 70 = dktX16_readsTransition_3 := dk_seg dksX16_readsTransition_2 24 rfl rfl
theorem dksX16_readsTransition_4 : cX16_readsTransition.data.toList.drop 94 = dktX16_readsTransition_4 := dk_seg dksX16_readsTransition_3 24 rfl rfl
theorem dksX16_readsTransition_5 : cX16_readsTransition.data.toList.drop 118 = dktX16_readsTransition_5 := dk_seg dksX16_readsTransition_4 24 rfl rfl
theorem dX16_readsTransition_0 : decode cX16_readsTransition 0 = .ok (.aload_n 0, 1) := dk_42 (dk_at dksX16_readsTransition_0 0 rfl rfl)
theorem dX16_readsTransition_1 : decode cX16_readsTransition 1 = .ok (.invokevirtual 40, 3) := dk_182 0 40 (dk_at dksX16_readsTransition_0 1 rfl rfl)
theorem dX16_readsTransition_4 : decode cX16_readsTransition 4 = .ok (.pop, 1) := dk_87 (dk_at dksX16_readsTransition_0 4 rfl rfl)
theorem dX16_readsTransition_5 : decode cX16_readsTransition 5 = .ok (.aload_n 0, 1) := dk_42 (dk_at dksX16_readsTransition_0 5 rfl rfl)
theorem dX16_readsTransition_6 : decode cX16_readsTransition 6 = .ok (.getfield 3, 3) := dk_180 0 3 (dk_at dksX16_readsTransition_0 6 rfl rfl)
theorem dX16_readsTransition_9 : decode cX16_readsTransition 9 = .ok (.getfield 157, 3) := dk_180 0 157 (dk_at dksX16_readsTransition_0 9 rfl rfl)
theorem dX16_readsTransition_12 : decode cX16_readsTransition 12 = .ok (.invokevirtual 61, 3) := dk_182 0 61 (dk_at dksX16_readsTransition_0 12 rfl rfl)
theorem dX16_readsTransition_15 : decode cX16_readsTransition 15 = .ok (.aload_n 0, 1) := dk_42 (dk_at dksX16_readsTransition_0 15 rfl rfl)
theorem dX16_readsTransition_16 : decode cX16_readsTransition 16 = .ok (.getfield 18, 3) := dk_180 0 18 (dk_at dksX16_readsTransition_0 16 rfl rfl)
theorem dX16_readsTransition_19 : decode cX16_readsTransition 19 = .ok (.invokevirtual 61, 3) := dk_182 0 61 (dk_at dksX16_readsTransition_0 19 rfl rfl)
theorem dX16_readsTransition_22 : decode cX16_readsTransition 22 = .ok (.iadd, 1) := dk_96 (dk_at dksX16_readsTransition_0 22 rfl rfl)
theorem dX16_readsTransition_23 : decode cX16_readsTransition 23 = .ok (.bipush 24, 2) := dk_16 24 (dk_at dksX16_readsTransition_1 0 rfl rfl)
theorem dX16_readsTransition_25 : decode cX16_readsTransition 25 = .ok (.if_icmp .ne 5, 3) := dk_160 0 5 (dk_at dksX16_readsTransition_1 2 rfl rfl)
theorem dX16_readsTransition_28 : decode cX16_readsTransition 28 = .ok (.iconst 0, 1) := dk_3 (dk_at dksX16_readsTransition_1 5 rfl rfl)
theorem dX16_readsTransition_29 : decode cX16_readsTransition 29 = .ok (.ireturn, 1) := dk_172 (dk_at dksX16_readsTransition_1 6 rfl rfl)
theorem dX16_readsTransition_30 : decode cX16_readsTransition 30 = .ok (.aload_n 0, 1) := dk_42 (dk_at dksX16_readsTransition_1 7 rfl rfl)
theorem dX16_readsTransition_31 : decode cX16_readsTransition 31 = .ok (.bipush 42, 2) := dk_16 42 (dk_at dksX16_readsTransition_1 8 rfl rfl)
theorem dX16_readsTransition_33 : decode cX16_readsTransition 33 = .ok (.invokevirtual 75, 3) := dk_182 0 75 (dk_at dksX16_readsTransition_1 10 rfl rfl)
theorem dX16_readsTransition_36 : decode cX16_readsTransition 36 = .ok (.istore_n 1, 1) := dk_60 (dk_at dksX16_readsTransition_1 13 rfl rfl)
theorem dX16_readsTransition_37 : decode cX16_readsTransition 37 = .ok (.iload_n 1, 1) := dk_27 (dk_at dksX16_readsTransition_1 14 rfl rfl)
theorem dX16_readsTransition_38 : decode cX16_readsTransition 38 = .ok (.ifCond .eq 7, 3) := dk_153 0 7 (dk_at dksX16_readsTransition_1 15 rfl rfl)
theorem dX16_readsTransition_41 : decode cX16_readsTransition 41 = .ok (.aconst_null, 1) := dk_1 (dk_at dksX16_readsTransition_1 18 rfl rfl)
theorem dX16_readsTransition_42 : decode cX16_readsTransition 42 = .ok (.goto 7, 3) := dk_167 0 7 (dk_at dksX16_readsTransition_1 19 rfl rfl)
theorem dX16_readsTransition_45 : decode cX16_readsTransition 45 = .ok (.aload_n 0, 1) := dk_42 (dk_at dksX16_readsTransition_1 22 rfl rfl)
theorem dX16_readsTransition_46 : decode cX16_readsTransition 46 = .ok (.invokevirtual 160, 3) := dk_182 0 160 (dk_at dksX16_readsTransition_2 0 rfl rfl)
theorem dX16_readsTransition_49 : decode cX16_readsTransition 49 = .ok (.astore_n 2, 1) := dk_77 (dk_at dksX16_readsTransition_2 3 rfl rfl)
theorem dX16_readsTransition_50 : decode cX16_readsTransition 50 = .ok (.iload_n 1, 1) := dk_27 (dk_at dksX16_readsTransition_2 4 rfl rfl)
theorem dX16_readsTransition_51 : decode cX16_readsTransition 51 = .ok (.ifCond .ne 7, 3) := dk_154 0 7 (dk_at dksX16_readsTransition_2 5 rfl rfl)
theorem dX16_readsTransition_54 : decode cX16_readsTransition 54 = .ok (.aload_n 2, 1) := dk_44 (dk_at dksX16_readsTransition_2 8 rfl rfl)
theorem dX16_readsTransition_55 : decode cX16_readsTransition 55 = .ok (.ifnull 12, 3) := dk_198 0 12 (dk_at dksX16_readsTransition_2 9 rfl rfl)
theorem dX16_readsTransition_58 : decode cX16_readsTransition 58 = .ok (.aload_n 0, 1) := dk_42 (dk_at dksX16_readsTransition_2 12 rfl rfl)
theorem dX16_readsTransition_59 : decode cX16_readsTransition 59 = .ok (.bipush 62, 2) := dk_16 62 (dk_at dksX16_readsTransition_2 13 rfl rfl)
theorem dX16_readsTransition_61 : decode cX16_readsTransition 61 = .ok (.invokevirtual 75, 3) := dk_182 0 75 (dk_at dksX16_readsTransition_2 15 rfl rfl)
theorem dX16_readsTransition_64 : decode cX16_readsTransition 64 = .ok (.ifCond .ne 5, 3) := dk_154 0 5 (dk_at dksX16_readsTransition_2 18 rfl rfl)
theorem dX16_readsTransition_67 : decode cX16_readsTransition 67 = .ok (.iconst 0, 1) := dk_3 (dk_at dksX16_readsTransition_2 21 rfl rfl)
theorem dX16_readsTransition_68 : decode cX16_readsTransition 68 = .ok (.ireturn, 1) := dk_172 (dk_at dksX16_readsTransition_2 22 rfl rfl)
theorem dX16_readsTransition_69 : decode cX16_readsTransition 69 = .ok (.aload_n 0, 1) := dk_42 (dk_at dksX16_readsTransition_2 23 rfl rfl)
theorem dX16_readsTransition_70 : decode cX16_readsTransition 70 = .ok (.invokevirtual 160, 3) := dk_182 0 160 (dk_at dksX16_readsTransition_3 0 rfl rfl)
theorem dX16_readsTransition_73 : decode cX16_readsTransition 73 = .ok (.astore_n 3, 1) := dk_78 (dk_at dksX16_readsTransition_3 3 rfl rfl)
theorem dX16_readsTransition_74 : decode cX16_readsTransition 74 = .ok (.aload_n 3, 1) := dk_45 (dk_at dksX16_readsTransition_3 4 rfl rfl)
theorem dX16_readsTransition_75 : decode cX16_readsTransition 75 = .ok (.ifnull 22, 3) := dk_198 0 22 (dk_at dksX16_readsTransition_3 5 rfl rfl)
theorem dX16_readsTransition_78 : decode cX16_readsTransition 78 = .ok (.aload_n 0, 1) := dk_42 (dk_at dksX16_readsTransition_3 8 rfl rfl)
theorem dX16_readsTransition_79 : decode cX16_readsTransition 79 = .ok (.bipush 47, 2) := dk_16 47 (dk_at dksX16_readsTransition_3 9 rfl rfl)
theorem dX16_readsTransition_81 : decode cX16_readsTransition 81 = .ok (.invokevirtual 75, 3) := dk_182 0 75 (dk_at dksX16_readsTransition_3 11 rfl rfl)
theorem dX16_readsTransition_84 : decode cX16_readsTransition 84 = .ok (.ifCond .eq 13, 3) := dk_153 0 13 (dk_at dksX16_readsTransition_3 14 rfl rfl)
theorem dX16_readsTransition_87 : decode cX16_readsTransition 87 = .ok (.aload_n 0, 1) := dk_42 (dk_at dksX16_readsTransition_3 17 rfl rfl)
theorem dX16_readsTransition_88 : decode cX16_readsTransition 88 = .ok (.iconst 0, 1) := dk_3 (dk_at dksX16_readsTransition_3 18 rfl rfl)
theorem dX16_readsTransition_89 : decode cX16_readsTransition 89 = .ok (.bipush 60, 2) := dk_16 60 (dk_at dksX16_readsTransition_3 19 rfl rfl)
theorem dX16_readsTransition_91 : decode cX16_readsTransition 91 = .ok (.invokevirtual 108, 3) := dk_182 0 108 (dk_at dksX16_readsTransition_3 21 rfl rfl)
theorem dX16_readsTransition_94 : decode cX16_readsTransition 94 = .ok (.ifCond .ne 5, 3) := dk_154 0 5 (dk_at dksX16_readsTransition_4 0 rfl rfl)
theorem dX16_readsTransition_97 : decode cX16_readsTransition 97 = .ok (.iconst 0, 1) := dk_3 (dk_at dksX16_readsTransition_4 3 rfl rfl)
theorem dX16_readsTransition_98 : decode cX16_readsTransition 98 = .ok (.ireturn, 1) := dk_172 (dk_at dksX16_readsTransition_4 4 rfl rfl)
theorem dX16_readsTransition_99 : decode cX16_readsTransition 99 = .ok (.new 95, 3) := dk_187 0 95 (dk_at dksX16_readsTransition_4 5 rfl rfl)
theorem dX16_readsTransition_102 : decode cX16_readsTransition 102 = .ok (.dup, 1) := dk_89 (dk_at dksX16_readsTransition_4 8 rfl rfl)
theorem dX16_readsTransition_103 : decode cX16_readsTransition 103 = .ok (.aload_n 2, 1) := dk_44 (dk_at dksX16_readsTransition_4 9 rfl rfl)
theorem dX16_readsTransition_104 : decode cX16_readsTransition 104 = .ok (.aload_n 3, 1) := dk_45 (dk_at dksX16_readsTransition_4 10 rfl rfl)
theorem dX16_readsTransition_105 : decode cX16_readsTransition 105 = .ok (.aload_n 0, 1) := dk_42 (dk_at dksX16_readsTransition_4 11 rfl rfl)
theorem dX16_readsTransition_106 : decode cX16_readsTransition 106 = .ok (.getfield 55, 3) := dk_180 0 55 (dk_at dksX16_readsTransition_4 12 rfl rfl)
theorem dX16_readsTransition_109 : decode cX16_readsTransition 109 = .ok (.invokespecial 164, 3) := dk_183 0 164 (dk_at dksX16_readsTransition_4 15 rfl rfl)
theorem dX16_readsTransition_112 : decode cX16_readsTransition 112 = .ok (.astore 4, 2) := dk_58 4 (dk_at dksX16_readsTransition_4 18 rfl rfl)
theorem dX16_readsTransition_114 : decode cX16_readsTransition 114 = .ok (.aload_n 0, 1) := dk_42 (dk_at dksX16_readsTransition_4 20 rfl rfl)
theorem dX16_readsTransition_115 : decode cX16_readsTransition 115 = .ok (.getfield 18, 3) := dk_180 0 18 (dk_at dksX16_readsTransition_4 21 rfl rfl)
theorem dX16_readsTransition_118 : decode cX16_readsTransition 118 = .ok (.aload 4, 2) := dk_25 4 (dk_at dksX16_readsTransition_5 0 rfl rfl)
theorem dX16_readsTransition_120 : decode cX16_readsTransition 120 = .ok (.invokevirtual 167, 3) := dk_182 0 167 (dk_at dksX16_readsTransition_5 2 rfl rfl)
theorem dX16_readsTransition_123 : decode cX16_readsTransition 123 = .ok (.pop, 1) := dk_87 (dk_at dksX16_readsTransition_5 5 rfl rfl)
theorem dX16_readsTransition_124 : decode cX16_readsTransition 124 = .ok (.aload_n 0, 1) := dk_42 (dk_at dksX16_readsTransition_5 6 rfl rfl)
theorem dX16_readsTransition_125 : decode cX16_readsTransition 125 = .ok (.aload 4, 2) := dk_25 4 (dk_at dksX16_readsTransition_5 7 rfl rfl)
theorem dX16_readsTransition_127 : decode cX16_readsTransition 127 = .ok (.invokevirtual 168, 3) := dk_182 0 168 (dk_at dksX16_readsTransition_5 9 rfl rfl)
theorem dX16_readsTransition_130 : decode cX16_readsTransition 130 = .ok (.ireturn, 1) := dk_172 (dk_at dksX16_readsTransition_5 12 rfl rfl)
abbrev cX16_here : ByteArray := prog_13_method_2_code
def yX16_here : MethodName := ⟨RX16, "here", "()I"⟩
def dkwX16_here_3 : List UInt8 := [180, 0, 26, 42, 180, 0, 22, 182, 0, 36, 167, 0, 4, 2, 172]
abbrev dktX16_here_3 : List UInt8 := dkwX16_here_3 ++ []
def dkwX16_here_2 : List UInt8 := [167, 255, 210, 42, 180, 0, 22, 42, 180, 0, 3, 180, 0, 26, 182, 0, 30, 162, 0, 20, 42, 180, 0, 3]
abbrev dktX16_here_2 : List UInt8 := dkwX16_here_2 ++ dktX16_here_3
def dkwX16_here_1 : List UInt8 := [42, 180, 0, 22, 182, 0, 36, 16, 32, 160, 0, 16, 42, 89, 180, 0, 22, 4, 96, 181, 0, 22]
abbrev dktX16_here_1 : List UInt8 := dkwX16_here_1 ++ dktX16_here_2
def dkwX16_here_0 : List UInt8 := [42, 180, 0, 22, 42, 180, 0, 3, 180, 0, 26, 182, 0, 30, 162, 0, 35, 42, 180, 0, 3, 180, 0, 26]
abbrev dktX16_here_0 : List UInt8 := dkwX16_here_0 ++ dktX16_here_1
theorem dksX16_here_0 : cX16_here.data.toList.drop 0 = dktX16_here_0 := by decide +kernel
theorem dksX16_here_1 : cX16_here.data.toList.drop 24 = dktX16_here_1 := dk_seg dksX16_here_0 24 rfl rfl
theorem dksX16_here_2 : cX16_here.data.toList.drop 46 = dktX16_here_2 := dk_seg dksX16_here_1 22 rfl rfl
theorem dksX16_here_3 : cX16_here.data.toList.drop 70 = dktX16_here_3 := dk_seg dksX16_here_2 24 rfl rfl
theorem dX16_here_0 : decode cX16_here 0 = .ok (.aload_n 0, 1) := dk_42 (dk_at dksX16_here_0 0 rfl rfl)
theorem dX16_here_1 : decode cX16_here 1 = .ok (.getfield 22, 3) := dk_180 0 22 (dk_at dksX16_here_0 1 rfl rfl)
theorem dX16_here_4 : decode cX16_here 4 = .ok (.aload_n 0, 1) := dk_42 (dk_at dksX16_here_0 4 rfl rfl)
theorem dX16_here_5 : decode cX16_here 5 = .ok (.getfield 3, 3) := dk_180 0 3 (dk_at dksX16_here_0 5 rfl rfl)
theorem dX16_here_8 : decode cX16_here 8 = .ok (.getfield 26, 3) := dk_180 0 26 (dk_at dksX16_here_0 8 rfl rfl)
theorem dX16_here_11 : decode cX16_here 11 = .ok (.invokevirtual 30, 3) := dk_182 0 30 (dk_at dksX16_here_0 11 rfl rfl)
theorem dX16_here_14 : decode cX16_here 14 = .ok (.if_icmp .ge 35, 3) := dk_162 0 35 (dk_at dksX16_here_0 14 rfl rfl)
theorem dX16_here_17 : decode cX16_here 17 = .ok (.aload_n 0, 1) := dk_42 (dk_at dksX16_here_0 17 rfl rfl)
theorem dX16_here_18 : decode cX16_here 18 = .ok (.getfield 3, 3) := dk_180 0 3 (dk_at dksX16_here_0 18 rfl rfl)
theorem dX16_here_21 : decode cX16_here 21 = .ok (.getfield 26, 3) := dk_180 0 26 (dk_at dksX16_here_0 21 rfl rfl)
theorem dX16_here_24 : decode cX16_here 24 = .ok (.aload_n 0, 1) := dk_42 (dk_at dksX16_here_1 0 rfl rfl)
theorem dX16_here_25 : decode cX16_here 25 = .ok (.getfield 22, 3) := dk_180 0 22 (dk_at dksX16_here_1 1 rfl rfl)
theorem dX16_here_28 : decode cX16_here 28 = .ok (.invokevirtual 36, 3) := dk_182 0 36 (dk_at dksX16_here_1 4 rfl rfl)
theorem dX16_here_31 : decode cX16_here 31 = .ok (.bipush 32, 2) := dk_16 32 (dk_at dksX16_here_1 7 rfl rfl)
theorem dX16_here_33 : decode cX16_here 33 = .ok (.if_icmp .ne 16, 3) := dk_160 0 16 (dk_at dksX16_here_1 9 rfl rfl)
theorem dX16_here_36 : decode cX16_here 36 = .ok (.aload_n 0, 1) := dk_42 (dk_at dksX16_here_1 12 rfl rfl)
theorem dX16_here_37 : decode cX16_here 37 = .ok (.dup, 1) := dk_89 (dk_at dksX16_here_1 13 rfl rfl)
theorem dX16_here_38 : decode cX16_here 38 = .ok (.getfield 22, 3) := dk_180 0 22 (dk_at dksX16_here_1 14 rfl rfl)
theorem dX16_here_41 : decode cX16_here 41 = .ok (.iconst 1, 1) := dk_4 (dk_at dksX16_here_1 17 rfl rfl)
theorem dX16_here_42 : decode cX16_here 42 = .ok (.iadd, 1) := dk_96 (dk_at dksX16_here_1 18 rfl rfl)
theorem dX16_here_43 : decode cX16_here 43 = .ok (.putfield 22, 3) := dk_181 0 22 (dk_at dksX16_here_1 19 rfl rfl)
theorem dX16_here_46 : decode cX16_here 46 = .ok (.goto (-46), 3) := dk_167 255 210 (dk_at dksX16_here_2 0 rfl rfl)
theorem dX16_here_49 : decode cX16_here 49 = .ok (.aload_n 0, 1) := dk_42 (dk_at dksX16_here_2 3 rfl rfl)
theorem dX16_here_50 : decode cX16_here 50 = .ok (.getfield 22, 3) := dk_180 0 22 (dk_at dksX16_here_2 4 rfl rfl)
theorem dX16_here_53 : decode cX16_here 53 = .ok (.aload_n 0, 1) := dk_42 (dk_at dksX16_here_2 7 rfl rfl)
theorem dX16_here_54 : decode cX16_here 54 = .ok (.getfield 3, 3) := dk_180 0 3 (dk_at dksX16_here_2 8 rfl rfl)
theorem dX16_here_57 : decode cX16_here 57 = .ok (.getfield 26, 3) := dk_180 0 26 (dk_at dksX16_here_2 11 rfl rfl)
theorem dX16_here_60 : decode cX16_here 60 = .ok (.invokevirtual 30, 3) := dk_182 0 30 (dk_at dksX16_here_2 14 rfl rfl)
theorem dX16_here_63 : decode cX16_here 63 = .ok (.if_icmp .ge 20, 3) := dk_162 0 20 (dk_at dksX16_here_2 17 rfl rfl)
theorem dX16_here_66 : decode cX16_here 66 = .ok (.aload_n 0, 1) := dk_42 (dk_at dksX16_here_2 20 rfl rfl)
theorem dX16_here_67 : decode cX16_here 67 = .ok (.getfield 3, 3) := dk_180 0 3 (dk_at dksX16_here_2 21 rfl rfl)
theorem dX16_here_70 : decode cX16_here 70 = .ok (.getfield 26, 3) := dk_180 0 26 (dk_at dksX16_here_3 0 rfl rfl)
theorem dX16_here_73 : decode cX16_here 73 = .ok (.aload_n 0, 1) := dk_42 (dk_at dksX16_here_3 3 rfl rfl)
theorem dX16_here_74 : decode cX16_here 74 = .ok (.getfield 22, 3) := dk_180 0 22 (dk_at dksX16_here_3 4 rfl rfl)
theorem dX16_here_77 : decode cX16_here 77 = .ok (.invokevirtual 36, 3) := dk_182 0 36 (dk_at dksX16_here_3 7 rfl rfl)
theorem dX16_here_80 : decode cX16_here 80 = .ok (.goto 4, 3) := dk_167 0 4 (dk_at dksX16_here_3 10 rfl rfl)
theorem dX16_here_83 : decode cX16_here 83 = .ok (.iconst (-1), 1) := dk_2 (dk_at dksX16_here_3 13 rfl rfl)
theorem dX16_here_84 : decode cX16_here 84 = .ok (.ireturn, 1) := dk_172 (dk_at dksX16_here_3 14 rfl rfl)
abbrev cX16_reads : ByteArray := prog_13_method_3_code
def yX16_reads : MethodName := ⟨RX16, "reads", "(I)Z"⟩
def dkwX16_reads_1 : List UInt8 := [167, 0, 4, 3, 96, 181, 0, 22, 28, 172]
abbrev dktX16_reads_1 : List UInt8 := dkwX16_reads_1 ++ []
def dkwX16_reads_0 : List UInt8 := [42, 182, 0, 40, 27, 160, 0, 7, 4, 167, 0, 4, 3, 61, 42, 89, 180, 0, 22, 28, 153, 0, 7, 4]
abbrev dktX16_reads_0 : List UInt8 := dkwX16_reads_0 ++ dktX16_reads_1
theorem dksX16_reads_0 : cX16_reads.data.toList.drop 0 = dktX16_reads_0 := by decide +kernel
theorem dksX16_reads_1 : cX16_reads.data.toList.drop 24 = dktX16_reads_1 := dk_seg dksX16_reads_0 24 rfl rfl
theorem dX16_reads_0 : decode cX16_reads 0 = .ok (.aload_n 0, 1) := dk_42 (dk_at dksX16_reads_0 0 rfl rfl)
theorem dX16_reads_1 : decode cX16_reads 1 = .ok (.invokevirtual 40, 3) := dk_182 0 40 (dk_at dksX16_reads_0 1 rfl rfl)
theorem dX16_reads_4 : decode cX16_reads 4 = .ok (.iload_n 1, 1) := dk_27 (dk_at dksX16_reads_0 4 rfl rfl)
theorem dX16_reads_5 : decode cX16_reads 5 = .ok (.if_icmp .ne 7, 3) := dk_160 0 7 (dk_at dksX16_reads_0 5 rfl rfl)
theorem dX16_reads_8 : decode cX16_reads 8 = .ok (.iconst 1, 1) := dk_4 (dk_at dksX16_reads_0 8 rfl rfl)
theorem dX16_reads_9 : decode cX16_reads 9 = .ok (.goto 4, 3) := dk_167 0 4 (dk_at dksX16_reads_0 9 rfl rfl)
theorem dX16_reads_12 : decode cX16_reads 12 = .ok (.iconst 0, 1) := dk_3 (dk_at dksX16_reads_0 12 rfl rfl)
theorem dX16_reads_13 : decode cX16_reads 13 = .ok (.istore_n 2, 1) := dk_61 (dk_at dksX16_reads_0 13 rfl rfl)
theorem dX16_reads_14 : decode cX16_reads 14 = .ok (.aload_n 0, 1) := dk_42 (dk_at dksX16_reads_0 14 rfl rfl)
theorem dX16_reads_15 : decode cX16_reads 15 = .ok (.dup, 1) := dk_89 (dk_at dksX16_reads_0 15 rfl rfl)
theorem dX16_reads_16 : decode cX16_reads 16 = .ok (.getfield 22, 3) := dk_180 0 22 (dk_at dksX16_reads_0 16 rfl rfl)
theorem dX16_reads_19 : decode cX16_reads 19 = .ok (.iload_n 2, 1) := dk_28 (dk_at dksX16_reads_0 19 rfl rfl)
theorem dX16_reads_20 : decode cX16_reads 20 = .ok (.ifCond .eq 7, 3) := dk_153 0 7 (dk_at dksX16_reads_0 20 rfl rfl)
theorem dX16_reads_23 : decode cX16_reads 23 = .ok (.iconst 1, 1) := dk_4 (dk_at dksX16_reads_0 23 rfl rfl)
theorem dX16_reads_24 : decode cX16_reads 24 = .ok (.goto 4, 3) := dk_167 0 4 (dk_at dksX16_reads_1 0 rfl rfl)
theorem dX16_reads_27 : decode cX16_reads 27 = .ok (.iconst 0, 1) := dk_3 (dk_at dksX16_reads_1 3 rfl rfl)
theorem dX16_reads_28 : decode cX16_reads 28 = .ok (.iadd, 1) := dk_96 (dk_at dksX16_reads_1 4 rfl rfl)
theorem dX16_reads_29 : decode cX16_reads 29 = .ok (.putfield 22, 3) := dk_181 0 22 (dk_at dksX16_reads_1 5 rfl rfl)
theorem dX16_reads_32 : decode cX16_reads 32 = .ok (.iload_n 2, 1) := dk_28 (dk_at dksX16_reads_1 8 rfl rfl)
theorem dX16_reads_33 : decode cX16_reads 33 = .ok (.ireturn, 1) := dk_172 (dk_at dksX16_reads_1 9 rfl rfl)
abbrev cX16_readsState : ByteArray := prog_13_method_6_code
def yX16_readsState : MethodName := ⟨RX16, "readsState", "()LAnimationController$State;"⟩
def dkwX16_readsState_2 : List UInt8 := [180, 0, 58, 27, 182, 0, 64, 192, 0, 68, 176]
abbrev dktX16_readsState_2 : List UInt8 := dkwX16_readsState_2 ++ []
def dkwX16_readsState_1 : List UInt8 := [184, 0, 47, 154, 0, 5, 1, 176, 42, 89, 180, 0, 22, 4, 96, 181, 0, 22, 42, 180, 0, 3]
abbrev dktX16_readsState_1 : List UInt8 := dkwX16_readsState_1 ++ dktX16_readsState_2
def dkwX16_readsState_0 : List UInt8 := [42, 182, 0, 40, 16, 65, 100, 60, 27, 133, 9, 42, 180, 0, 3, 180, 0, 58, 182, 0, 61, 4, 100, 133]
abbrev dktX16_readsState_0 : List UInt8 := dkwX16_readsState_0 ++ dktX16_readsState_1
theorem dksX16_readsState_0 : cX16_readsState.data.toList.drop 0 = dktX16_readsState_0 := by decide +kernel
theorem dksX16_readsState_1 : cX16_readsState.data.toList.drop 24 = dktX16_readsState_1 := dk_seg dksX16_readsState_0 24 rfl rfl
theorem dksX16_readsState_2 : cX16_readsState.data.toList.drop 46 = dktX16_readsState_2 := dk_seg dksX16_readsState_1 22 rfl rfl
theorem dX16_readsState_0 : decode cX16_readsState 0 = .ok (.aload_n 0, 1) := dk_42 (dk_at dksX16_readsState_0 0 rfl rfl)
theorem dX16_readsState_1 : decode cX16_readsState 1 = .ok (.invokevirtual 40, 3) := dk_182 0 40 (dk_at dksX16_readsState_0 1 rfl rfl)
theorem dX16_readsState_4 : decode cX16_readsState 4 = .ok (.bipush 65, 2) := dk_16 65 (dk_at dksX16_readsState_0 4 rfl rfl)
theorem dX16_readsState_6 : decode cX16_readsState 6 = .ok (.isub, 1) := dk_100 (dk_at dksX16_readsState_0 6 rfl rfl)
theorem dX16_readsState_7 : decode cX16_readsState 7 = .ok (.istore_n 1, 1) := dk_60 (dk_at dksX16_readsState_0 7 rfl rfl)
theorem dX16_readsState_8 : decode cX16_readsState 8 = .ok (.iload_n 1, 1) := dk_27 (dk_at dksX16_readsState_0 8 rfl rfl)
theorem dX16_readsState_9 : decode cX16_readsState 9 = .ok (.i2l, 1) := dk_133 (dk_at dksX16_readsState_0 9 rfl rfl)
theorem dX16_readsState_10 : decode cX16_readsState 10 = .ok (.lconst 0, 1) := dk_9 (dk_at dksX16_readsState_0 10 rfl rfl)
theorem dX16_readsState_11 : decode cX16_readsState 11 = .ok (.aload_n 0, 1) := dk_42 (dk_at dksX16_readsState_0 11 rfl rfl)
theorem dX16_readsState_12 : decode cX16_readsState 12 = .ok (.getfield 3, 3) := dk_180 0 3 (dk_at dksX16_readsState_0 12 rfl rfl)
theorem dX16_readsState_15 : decode cX16_readsState 15 = .ok (.getfield 58, 3) := dk_180 0 58 (dk_at dksX16_readsState_0 15 rfl rfl)
theorem dX16_readsState_18 : decode cX16_readsState 18 = .ok (.invokevirtual 61, 3) := dk_182 0 61 (dk_at dksX16_readsState_0 18 rfl rfl)
theorem dX16_readsState_21 : decode cX16_readsState 21 = .ok (.iconst 1, 1) := dk_4 (dk_at dksX16_readsState_0 21 rfl rfl)
theorem dX16_readsState_22 : decode cX16_readsState 22 = .ok (.isub, 1) := dk_100 (dk_at dksX16_readsState_0 22 rfl rfl)
theorem dX16_readsState_23 : decode cX16_readsState 23 = .ok (.i2l, 1) := dk_133 (dk_at dksX16_readsState_0 23 rfl rfl)
theorem dX16_readsState_24 : decode cX16_readsState 24 = .ok (.invokestatic 47, 3) := dk_184 0 47 (dk_at dksX16_readsState_1 0 rfl rfl)
theorem dX16_readsState_27 : decode cX16_readsState 27 = .ok (.ifCond .ne 5, 3) := dk_154 0 5 (dk_at dksX16_readsState_1 3 rfl rfl)
theorem dX16_readsState_30 : decode cX16_readsState 30 = .ok (.aconst_null, 1) := dk_1 (dk_at dksX16_readsState_1 6 rfl rfl)
theorem dX16_readsState_31 : decode cX16_readsState 31 = .ok (.areturn, 1) := dk_176 (dk_at dksX16_readsState_1 7 rfl rfl)
theorem dX16_readsState_32 : decode cX16_readsState 32 = .ok (.aload_n 0, 1) := dk_42 (dk_at dksX16_readsState_1 8 rfl rfl)
theorem dX16_readsState_33 : decode cX16_readsState 33 = .ok (.dup, 1) := dk_89 (dk_at dksX16_readsState_1 9 rfl rfl)
theorem dX16_readsState_34 : decode cX16_readsState 34 = .ok (.getfield 22, 3) := dk_180 0 22 (dk_at dksX16_readsState_1 10 rfl rfl)
theorem dX16_readsState_37 : decode cX16_readsState 37 = .ok (.iconst 1, 1) := dk_4 (dk_at dksX16_readsState_1 13 rfl rfl)
theorem dX16_readsState_38 : decode cX16_readsState 38 = .ok (.iadd, 1) := dk_96 (dk_at dksX16_readsState_1 14 rfl rfl)
theorem dX16_readsState_39 : decode cX16_readsState 39 = .ok (.putfield 22, 3) := dk_181 0 22 (dk_at dksX16_readsState_1 15 rfl rfl)
theorem dX16_readsState_42 : decode cX16_readsState 42 = .ok (.aload_n 0, 1) := dk_42 (dk_at dksX16_readsState_1 18 rfl rfl)
theorem dX16_readsState_43 : decode cX16_readsState 43 = .ok (.getfield 3, 3) := dk_180 0 3 (dk_at dksX16_readsState_1 19 rfl rfl)
theorem dX16_readsState_46 : decode cX16_readsState 46 = .ok (.getfield 58, 3) := dk_180 0 58 (dk_at dksX16_readsState_2 0 rfl rfl)
theorem dX16_readsState_49 : decode cX16_readsState 49 = .ok (.iload_n 1, 1) := dk_27 (dk_at dksX16_readsState_2 3 rfl rfl)
theorem dX16_readsState_50 : decode cX16_readsState 50 = .ok (.invokevirtual 64, 3) := dk_182 0 64 (dk_at dksX16_readsState_2 4 rfl rfl)
theorem dX16_readsState_53 : decode cX16_readsState 53 = .ok (.checkcast 68, 3) := dk_192 0 68 (dk_at dksX16_readsState_2 7 rfl rfl)
theorem dX16_readsState_56 : decode cX16_readsState 56 = .ok (.areturn, 1) := dk_176 (dk_at dksX16_readsState_2 10 rfl rfl)
abbrev cX16_readsNumber : ByteArray := prog_13_method_5_code
def yX16_readsNumber : MethodName := ⟨RX16, "readsNumber", "(II)Z"⟩
def dkwX16_readsNumber_4 : List UInt8 := [21, 4, 181, 0, 55, 42, 29, 181, 0, 22, 4, 172]
abbrev dktX16_readsNumber_4 : List UInt8 := dkwX16_readsNumber_4 ++ []
def dkwX16_readsNumber_3 : List UInt8 := [180, 0, 22, 100, 6, 163, 0, 16, 21, 4, 133, 27, 133, 28, 133, 184, 0, 47, 154, 0, 5, 3, 172, 42]
abbrev dktX16_readsNumber_3 : List UInt8 := dkwX16_readsNumber_3 ++ dktX16_readsNumber_4
def dkwX16_readsNumber_2 : List UInt8 := [96, 16, 48, 100, 54, 4, 132, 3, 1, 167, 255, 213, 29, 42, 180, 0, 22, 159, 0, 26, 29, 42]
abbrev dktX16_readsNumber_2 : List UInt8 := dkwX16_readsNumber_2 ++ dktX16_readsNumber_3
def dkwX16_readsNumber_1 : List UInt8 := [180, 0, 22, 100, 7, 162, 0, 31, 16, 10, 21, 4, 104, 42, 180, 0, 3, 180, 0, 26, 29, 182, 0, 36]
abbrev dktX16_readsNumber_1 : List UInt8 := dkwX16_readsNumber_1 ++ dktX16_readsNumber_2
def dkwX16_readsNumber_0 : List UInt8 := [42, 182, 0, 40, 87, 42, 180, 0, 22, 62, 3, 54, 4, 42, 29, 182, 0, 51, 153, 0, 41, 29, 42]
abbrev dktX16_readsNumber_0 : List UInt8 := dkwX16_readsNumber_0 ++ dktX16_readsNumber_1
theorem dksX16_readsNumber_0 : cX16_readsNumber.data.toList.drop 0 = dktX16_readsNumber_0 := by decide +kernel
theorem dksX16_readsNumber_1 : cX16_readsNumber.data.toList.drop 23 = dktX16_readsNumber_1 := dk_seg dksX16_readsNumber_0 23 rfl rfl
theorem dksX16_readsNumber_2 : cX16_readsNumber.data.toList.drop 47 = dktX16_readsNumber_2 := dk_seg dksX16_readsNumber_1 24 rfl rfl
theorem dksX16_readsNumber_3 : cX16_readsNumber.data.toList.drop 69 = dktX16_readsNumber_3 := dk_seg dksX16_readsNumber_2 22 rfl rfl
theorem dksX16_readsNumber_4 : cX16_readsNumber.data.toList.drop 93 = dktX16_readsNumber_4 := dk_seg dksX16_readsNumber_3 24 rfl rfl
theorem dX16_readsNumber_0 : decode cX16_readsNumber 0 = .ok (.aload_n 0, 1) := dk_42 (dk_at dksX16_readsNumber_0 0 rfl rfl)
theorem dX16_readsNumber_1 : decode cX16_readsNumber 1 = .ok (.invokevirtual 40, 3) := dk_182 0 40 (dk_at dksX16_readsNumber_0 1 rfl rfl)
theorem dX16_readsNumber_4 : decode cX16_readsNumber 4 = .ok (.pop, 1) := dk_87 (dk_at dksX16_readsNumber_0 4 rfl rfl)
theorem dX16_readsNumber_5 : decode cX16_readsNumber 5 = .ok (.aload_n 0, 1) := dk_42 (dk_at dksX16_readsNumber_0 5 rfl rfl)
theorem dX16_readsNumber_6 : decode cX16_readsNumber 6 = .ok (.getfield 22, 3) := dk_180 0 22 (dk_at dksX16_readsNumber_0 6 rfl rfl)
theorem dX16_readsNumber_9 : decode cX16_readsNumber 9 = .ok (.istore_n 3, 1) := dk_62 (dk_at dksX16_readsNumber_0 9 rfl rfl)
theorem dX16_readsNumber_10 : decode cX16_readsNumber 10 = .ok (.iconst 0, 1) := dk_3 (dk_at dksX16_readsNumber_0 10 rfl rfl)
theorem dX16_readsNumber_11 : decode cX16_readsNumber 11 = .ok (.istore 4, 2) := dk_54 4 (dk_at dksX16_readsNumber_0 11 rfl rfl)
theorem dX16_readsNumber_13 : decode cX16_readsNumber 13 = .ok (.aload_n 0, 1) := dk_42 (dk_at dksX16_readsNumber_0 13 rfl rfl)
theorem dX16_readsNumber_14 : decode cX16_readsNumber 14 = .ok (.iload_n 3, 1) := dk_29 (dk_at dksX16_readsNumber_0 14 rfl rfl)
theorem dX16_readsNumber_15 : decode cX16_readsNumber 15 = .ok (.invokevirtual 51, 3) := dk_182 0 51 (dk_at dksX16_readsNumber_0 15 rfl rfl)
theorem dX16_readsNumber_18 : decode cX16_readsNumber 18 = .ok (.ifCond .eq 41, 3) := dk_153 0 41 (dk_at dksX16_readsNumber_0 18 rfl rfl)
theorem dX16_readsNumber_21 : decode cX16_readsNumber 21 = .ok (.iload_n 3, 1) := dk_29 (dk_at dksX16_readsNumber_0 21 rfl rfl)
theorem dX16_readsNumber_22 : decode cX16_readsNumber 22 = .ok (.aload_n 0, 1) := dk_42 (dk_at dksX16_readsNumber_0 22 rfl rfl)
theorem dX16_readsNumber_23 : decode cX16_readsNumber 23 = .ok (.getfield 22, 3) := dk_180 0 22 (dk_at dksX16_readsNumber_1 0 rfl rfl)
theorem dX16_readsNumber_26 : decode cX16_readsNumber 26 = .ok (.isub, 1) := dk_100 (dk_at dksX16_readsNumber_1 3 rfl rfl)
theorem dX16_readsNumber_27 : decode cX16_readsNumber 27 = .ok (.iconst 4, 1) := dk_7 (dk_at dksX16_readsNumber_1 4 rfl rfl)
theorem dX16_readsNumber_28 : decode cX16_readsNumber 28 = .ok (.if_icmp .ge 31, 3) := dk_162 0 31 (dk_at dksX16_readsNumber_1 5 rfl rfl)
theorem dX16_readsNumber_31 : decode cX16_readsNumber 31 = .ok (.bipush 10, 2) := dk_16 10 (dk_at dksX16_readsNumber_1 8 rfl rfl)
theorem dX16_readsNumber_33 : decode cX16_readsNumber 33 = .ok (.iload 4, 2) := dk_21 4 (dk_at dksX16_readsNumber_1 10 rfl rfl)
theorem dX16_readsNumber_35 : decode cX16_readsNumber 35 = .ok (.imul, 1) := dk_104 (dk_at dksX16_readsNumber_1 12 rfl rfl)
theorem dX16_readsNumber_36 : decode cX16_readsNumber 36 = .ok (.aload_n 0, 1) := dk_42 (dk_at dksX16_readsNumber_1 13 rfl rfl)
theorem dX16_readsNumber_37 : decode cX16_readsNumber 37 = .ok (.getfield 3, 3) := dk_180 0 3 (dk_at dksX16_readsNumber_1 14 rfl rfl)
theorem dX16_readsNumber_40 : decode cX16_readsNumber 40 = .ok (.getfield 26, 3) := dk_180 0 26 (dk_at dksX16_readsNumber_1 17 rfl rfl)
theorem dX16_readsNumber_43 : decode cX16_readsNumber 43 = .ok (.iload_n 3, 1) := dk_29 (dk_at dksX16_readsNumber_1 20 rfl rfl)
theorem dX16_readsNumber_44 : decode cX16_readsNumber 44 = .ok (.invokevirtual 36, 3) := dk_182 0 36 (dk_at dksX16_readsNumber_1 21 rfl rfl)
theorem dX16_readsNumber_47 : decode cX16_readsNumber 47 = .ok (.iadd, 1) := dk_96 (dk_at dksX16_readsNumber_2 0 rfl rfl)
theorem dX16_readsNumber_48 : decode cX16_readsNumber 48 = .ok (.bipush 48, 2) := dk_16 48 (dk_at dksX16_readsNumber_2 1 rfl rfl)
theorem dX16_readsNumber_50 : decode cX16_readsNumber 50 = .ok (.isub, 1) := dk_100 (dk_at dksX16_readsNumber_2 3 rfl rfl)
theorem dX16_readsNumber_51 : decode cX16_readsNumber 51 = .ok (.istore 4, 2) := dk_54 4 (dk_at dksX16_readsNumber_2 4 rfl rfl)
theorem dX16_readsNumber_53 : decode cX16_readsNumber 53 = .ok (.iinc 3 1, 3) := dk_132 3 1 (dk_at dksX16_readsNumber_2 6 rfl rfl)
theorem dX16_readsNumber_56 : decode cX16_readsNumber 56 = .ok (.goto (-43), 3) := dk_167 255 213 (dk_at dksX16_readsNumber_2 9 rfl rfl)
theorem dX16_readsNumber_59 : decode cX16_readsNumber 59 = .ok (.iload_n 3, 1) := dk_29 (dk_at dksX16_readsNumber_2 12 rfl rfl)
theorem dX16_readsNumber_60 : decode cX16_readsNumber 60 = .ok (.aload_n 0, 1) := dk_42 (dk_at dksX16_readsNumber_2 13 rfl rfl)
theorem dX16_readsNumber_61 : decode cX16_readsNumber 61 = .ok (.getfield 22, 3) := dk_180 0 22 (dk_at dksX16_readsNumber_2 14 rfl rfl)
theorem dX16_readsNumber_64 : decode cX16_readsNumber 64 = .ok (.if_icmp .eq 26, 3) := dk_159 0 26 (dk_at dksX16_readsNumber_2 17 rfl rfl)
theorem dX16_readsNumber_67 : decode cX16_readsNumber 67 = .ok (.iload_n 3, 1) := dk_29 (dk_at dksX16_readsNumber_2 20 rfl rfl)
theorem dX16_readsNumber_68 : decode cX16_readsNumber 68 = .ok (.aload_n 0, 1) := dk_42 (dk_at dksX16_readsNumber_2 21 rfl rfl)
theorem dX16_readsNumber_69 : decode cX16_readsNumber 69 = .ok (.getfield 22, 3) := dk_180 0 22 (dk_at dksX16_readsNumber_3 0 rfl rfl)
theorem dX16_readsNumber_72 : decode cX16_readsNumber 72 = .ok (.isub, 1) := dk_100 (dk_at dksX16_readsNumber_3 3 rfl rfl)
theorem dX16_readsNumber_73 : decode cX16_readsNumber 73 = .ok (.iconst 3, 1) := dk_6 (dk_at dksX16_readsNumber_3 4 rfl rfl)
theorem dX16_readsNumber_74 : decode cX16_readsNumber 74 = .ok (.if_icmp .gt 16, 3) := dk_163 0 16 (dk_at dksX16_readsNumber_3 5 rfl rfl)
theorem dX16_readsNumber_77 : decode cX16_readsNumber 77 = .ok (.iload 4, 2) := dk_21 4 (dk_at dksX16_readsNumber_3 8 rfl rfl)
theorem dX16_readsNumber_79 : decode cX16_readsNumber 79 = .ok (.i2l, 1) := dk_133 (dk_at dksX16_readsNumber_3 10 rfl rfl)
theorem dX16_readsNumber_80 : decode cX16_readsNumber 80 = .ok (.iload_n 1, 1) := dk_27 (dk_at dksX16_readsNumber_3 11 rfl rfl)
theorem dX16_readsNumber_81 : decode cX16_readsNumber 81 = .ok (.i2l, 1) := dk_133 (dk_at dksX16_readsNumber_3 12 rfl rfl)
theorem dX16_readsNumber_82 : decode cX16_readsNumber 82 = .ok (.iload_n 2, 1) := dk_28 (dk_at dksX16_readsNumber_3 13 rfl rfl)
theorem dX16_readsNumber_83 : decode cX16_readsNumber 83 = .ok (.i2l, 1) := dk_133 (dk_at dksX16_readsNumber_3 14 rfl rfl)
theorem dX16_readsNumber_84 : decode cX16_readsNumber 84 = .ok (.invokestatic 47, 3) := dk_184 0 47 (dk_at dksX16_readsNumber_3 15 rfl rfl)
theorem dX16_readsNumber_87 : decode cX16_readsNumber 87 = .ok (.ifCond .ne 5, 3) := dk_154 0 5 (dk_at dksX16_readsNumber_3 18 rfl rfl)
theorem dX16_readsNumber_90 : decode cX16_readsNumber 90 = .ok (.iconst 0, 1) := dk_3 (dk_at dksX16_readsNumber_3 21 rfl rfl)
theorem dX16_readsNumber_91 : decode cX16_readsNumber 91 = .ok (.ireturn, 1) := dk_172 (dk_at dksX16_readsNumber_3 22 rfl rfl)
theorem dX16_readsNumber_92 : decode cX16_readsNumber 92 = .ok (.aload_n 0, 1) := dk_42 (dk_at dksX16_readsNumber_3 23 rfl rfl)
theorem dX16_readsNumber_93 : decode cX16_readsNumber 93 = .ok (.iload 4, 2) := dk_21 4 (dk_at dksX16_readsNumber_4 0 rfl rfl)
theorem dX16_readsNumber_95 : decode cX16_readsNumber 95 = .ok (.putfield 55, 3) := dk_181 0 55 (dk_at dksX16_readsNumber_4 2 rfl rfl)
theorem dX16_readsNumber_98 : decode cX16_readsNumber 98 = .ok (.aload_n 0, 1) := dk_42 (dk_at dksX16_readsNumber_4 5 rfl rfl)
theorem dX16_readsNumber_99 : decode cX16_readsNumber 99 = .ok (.iload_n 3, 1) := dk_29 (dk_at dksX16_readsNumber_4 6 rfl rfl)
theorem dX16_readsNumber_100 : decode cX16_readsNumber 100 = .ok (.putfield 22, 3) := dk_181 0 22 (dk_at dksX16_readsNumber_4 7 rfl rfl)
theorem dX16_readsNumber_103 : decode cX16_readsNumber 103 = .ok (.iconst 1, 1) := dk_4 (dk_at dksX16_readsNumber_4 10 rfl rfl)
theorem dX16_readsNumber_104 : decode cX16_readsNumber 104 = .ok (.ireturn, 1) := dk_172 (dk_at dksX16_readsNumber_4 11 rfl rfl)
abbrev cX16_isDigitAt : ByteArray := prog_13_method_4_code
def yX16_isDigitAt : MethodName := ⟨RX16, "isDigitAt", "(I)Z"⟩
def dkwX16_isDigitAt_1 : List UInt8 := [182, 0, 36, 133, 20, 0, 43, 20, 0, 45, 184, 0, 47, 153, 0, 7, 4, 167, 0, 4, 3, 172]
abbrev dktX16_isDigitAt_1 : List UInt8 := dkwX16_isDigitAt_1 ++ []
def dkwX16_isDigitAt_0 : List UInt8 := [27, 42, 180, 0, 3, 180, 0, 26, 182, 0, 30, 162, 0, 31, 42, 180, 0, 3, 180, 0, 26, 27]
abbrev dktX16_isDigitAt_0 : List UInt8 := dkwX16_isDigitAt_0 ++ dktX16_isDigitAt_1
theorem dksX16_isDigitAt_0 : cX16_isDigitAt.data.toList.drop 0 = dktX16_isDigitAt_0 := by decide +kernel
theorem dksX16_isDigitAt_1 : cX16_isDigitAt.data.toList.drop 22 = dktX16_isDigitAt_1 := dk_seg dksX16_isDigitAt_0 22 rfl rfl
theorem dX16_isDigitAt_0 : decode cX16_isDigitAt 0 = .ok (.iload_n 1, 1) := dk_27 (dk_at dksX16_isDigitAt_0 0 rfl rfl)
theorem dX16_isDigitAt_1 : decode cX16_isDigitAt 1 = .ok (.aload_n 0, 1) := dk_42 (dk_at dksX16_isDigitAt_0 1 rfl rfl)
theorem dX16_isDigitAt_2 : decode cX16_isDigitAt 2 = .ok (.getfield 3, 3) := dk_180 0 3 (dk_at dksX16_isDigitAt_0 2 rfl rfl)
theorem dX16_isDigitAt_5 : decode cX16_isDigitAt 5 = .ok (.getfield 26, 3) := dk_180 0 26 (dk_at dksX16_isDigitAt_0 5 rfl rfl)
theorem dX16_isDigitAt_8 : decode cX16_isDigitAt 8 = .ok (.invokevirtual 30, 3) := dk_182 0 30 (dk_at dksX16_isDigitAt_0 8 rfl rfl)
theorem dX16_isDigitAt_11 : decode cX16_isDigitAt 11 = .ok (.if_icmp .ge 31, 3) := dk_162 0 31 (dk_at dksX16_isDigitAt_0 11 rfl rfl)
theorem dX16_isDigitAt_14 : decode cX16_isDigitAt 14 = .ok (.aload_n 0, 1) := dk_42 (dk_at dksX16_isDigitAt_0 14 rfl rfl)
theorem dX16_isDigitAt_15 : decode cX16_isDigitAt 15 = .ok (.getfield 3, 3) := dk_180 0 3 (dk_at dksX16_isDigitAt_0 15 rfl rfl)
theorem dX16_isDigitAt_18 : decode cX16_isDigitAt 18 = .ok (.getfield 26, 3) := dk_180 0 26 (dk_at dksX16_isDigitAt_0 18 rfl rfl)
theorem dX16_isDigitAt_21 : decode cX16_isDigitAt 21 = .ok (.iload_n 1, 1) := dk_27 (dk_at dksX16_isDigitAt_0 21 rfl rfl)
theorem dX16_isDigitAt_22 : decode cX16_isDigitAt 22 = .ok (.invokevirtual 36, 3) := dk_182 0 36 (dk_at dksX16_isDigitAt_1 0 rfl rfl)
theorem dX16_isDigitAt_25 : decode cX16_isDigitAt 25 = .ok (.i2l, 1) := dk_133 (dk_at dksX16_isDigitAt_1 3 rfl rfl)
theorem dX16_isDigitAt_26 : decode cX16_isDigitAt 26 = .ok (.ldc2_w 43, 3) := dk_20 0 43 (dk_at dksX16_isDigitAt_1 4 rfl rfl)
theorem dX16_isDigitAt_29 : decode cX16_isDigitAt 29 = .ok (.ldc2_w 45, 3) := dk_20 0 45 (dk_at dksX16_isDigitAt_1 7 rfl rfl)
theorem dX16_isDigitAt_32 : decode cX16_isDigitAt 32 = .ok (.invokestatic 47, 3) := dk_184 0 47 (dk_at dksX16_isDigitAt_1 10 rfl rfl)
theorem dX16_isDigitAt_35 : decode cX16_isDigitAt 35 = .ok (.ifCond .eq 7, 3) := dk_153 0 7 (dk_at dksX16_isDigitAt_1 13 rfl rfl)
theorem dX16_isDigitAt_38 : decode cX16_isDigitAt 38 = .ok (.iconst 1, 1) := dk_4 (dk_at dksX16_isDigitAt_1 16 rfl rfl)
theorem dX16_isDigitAt_39 : decode cX16_isDigitAt 39 = .ok (.goto 4, 3) := dk_167 0 4 (dk_at dksX16_isDigitAt_1 17 rfl rfl)
theorem dX16_isDigitAt_42 : decode cX16_isDigitAt 42 = .ok (.iconst 0, 1) := dk_3 (dk_at dksX16_isDigitAt_1 20 rfl rfl)
theorem dX16_isDigitAt_43 : decode cX16_isDigitAt 43 = .ok (.ireturn, 1) := dk_172 (dk_at dksX16_isDigitAt_1 21 rfl rfl)
abbrev cX16_readsAttributes : ByteArray := prog_13_method_10_code
def yX16_readsAttributes : MethodName := ⟨RX16, "readsAttributes", "(LAnimationController$Transition;)Z"⟩
def dkwX16_readsAttributes_6 : List UInt8 := [4, 172]
abbrev dktX16_readsAttributes_6 : List UInt8 := dkwX16_readsAttributes_6 ++ []
def dkwX16_readsAttributes_5 : List UInt8 := [43, 182, 0, 149, 154, 0, 17, 167, 0, 12, 42, 43, 29, 182, 0, 153, 154, 0, 5, 3, 172, 167, 255, 124]
abbrev dktX16_readsAttributes_5 : List UInt8 := dkwX16_readsAttributes_5 ++ dktX16_readsAttributes_6
def dkwX16_readsAttributes_4 : List UInt8 := [180, 0, 22, 4, 96, 181, 0, 22, 44, 29, 184, 0, 133, 182, 0, 147, 87, 29, 16, 63, 160, 0, 14, 42]
abbrev dktX16_readsAttributes_4 : List UInt8 := dkwX16_readsAttributes_4 ++ dktX16_readsAttributes_5
def dkwX16_readsAttributes_3 : List UInt8 := [43, 180, 0, 143, 198, 0, 7, 4, 167, 0, 4, 3, 54, 4, 21, 4, 154, 0, 5, 3, 172, 42, 89]
abbrev dktX16_readsAttributes_3 : List UInt8 := dkwX16_readsAttributes_3 ++ dktX16_readsAttributes_4
def dkwX16_readsAttributes_2 : List UInt8 := [167, 0, 36, 3, 167, 0, 32, 44, 29, 184, 0, 133, 182, 0, 139, 154, 0, 20, 29, 16, 64, 160, 0, 10]
abbrev dktX16_readsAttributes_2 : List UInt8 := dkwX16_readsAttributes_2 ++ dktX16_readsAttributes_3
def dkwX16_readsAttributes_1 : List UInt8 := [155, 0, 119, 42, 182, 0, 40, 146, 62, 29, 16, 63, 160, 0, 19, 43, 180, 0, 130, 6, 162, 0, 7, 4]
abbrev dktX16_readsAttributes_1 : List UInt8 := dkwX16_readsAttributes_1 ++ dktX16_readsAttributes_2
def dkwX16_readsAttributes_0 : List UInt8 := [187, 0, 125, 89, 183, 0, 127, 77, 42, 182, 0, 40, 155, 0, 131, 18, 128, 42, 182, 0, 40, 182, 0, 102]
abbrev dktX16_readsAttributes_0 : List UInt8 := dkwX16_readsAttributes_0 ++ dktX16_readsAttributes_1
theorem dksX16_readsAttributes_0 : cX16_readsAttributes.data.toList.drop 0 = dktX16_readsAttributes_0 := by decide +kernel
theorem dksX16_readsAttributes_1 : cX16_readsAttributes.data.toList.drop 24 = dktX16_readsAttributes_1 := dk_seg dksX16_readsAttributes_0 24 rfl rfl
theorem dksX16_readsAttributes_2 : cX16_readsAttributes.data.toList.drop 48 = dktX16_readsAttributes_2 := dk_seg dksX16_readsAttributes_1 24 rfl rfl
theorem dksX16_readsAttributes_3 : cX16_readsAttributes.data.toList.drop 72 = dktX16_readsAttributes_3 := dk_seg dksX16_readsAttributes_2 24 rfl rfl
theorem dksX16_readsAttributes_4 : cX16_readsAttributes.data.toList.drop 95 = dktX16_readsAttributes_4 := dk_seg dksX16_readsAttributes_3 23 rfl rfl
theorem dksX16_readsAttributes_5 : cX16_readsAttributes.data.toList.drop 119 = dktX16_readsAttributes_5 := dk_seg dksX16_readsAttributes_4 24 rfl rfl
theorem dksX16_readsAttributes_6 : cX16_readsAttributes.data.toList.drop 143 = dktX16_readsAttributes_6 := dk_seg dksX16_readsAttributes_5 24 rfl rfl
theorem dX16_readsAttributes_0 : decode cX16_readsAttributes 0 = .ok (.new 125, 3) := dk_187 0 125 (dk_at dksX16_readsAttributes_0 0 rfl rfl)
theorem dX16_readsAttributes_3 : decode cX16_readsAttributes 3 = .ok (.dup, 1) := dk_89 (dk_at dksX16_readsAttributes_0 3 rfl rfl)
theorem dX16_readsAttributes_4 : decode cX16_readsAttributes 4 = .ok (.invokespecial 127, 3) := dk_183 0 127 (dk_at dksX16_readsAttributes_0 4 rfl rfl)
theorem dX16_readsAttributes_7 : decode cX16_readsAttributes 7 = .ok (.astore_n 2, 1) := dk_77 (dk_at dksX16_readsAttributes_0 7 rfl rfl)
theorem dX16_readsAttributes_8 : decode cX16_readsAttributes 8 = .ok (.aload_n 0, 1) := dk_42 (dk_at dksX16_readsAttributes_0 8 rfl rfl)
theorem dX16_readsAttributes_9 : decode cX16_readsAttributes 9 = .ok (.invokevirtual 40, 3) := dk_182 0 40 (dk_at dksX16_readsAttributes_0 9 rfl rfl)
theorem dX16_readsAttributes_12 : decode cX16_readsAttributes 12 = .ok (.ifCond .lt 131, 3) := dk_155 0 131 (dk_at dksX16_readsAttributes_0 12 rfl rfl)
theorem dX16_readsAttributes_15 : decode cX16_readsAttributes 15 = .ok (.ldc 128, 2) := dk_18 128 (dk_at dksX16_readsAttributes_0 15 rfl rfl)
theorem dX16_readsAttributes_17 : decode cX16_readsAttributes 17 = .ok (.aload_n 0, 1) := dk_42 (dk_at dksX16_readsAttributes_0 17 rfl rfl)
theorem dX16_readsAttributes_18 : decode cX16_readsAttributes 18 = .ok (.invokevirtual 40, 3) := dk_182 0 40 (dk_at dksX16_readsAttributes_0 18 rfl rfl)
theorem dX16_readsAttributes_21 : decode cX16_readsAttributes 21 = .ok (.invokevirtual 102, 3) := dk_182 0 102 (dk_at dksX16_readsAttributes_0 21 rfl rfl)
theorem dX16_readsAttributes_24 : decode cX16_readsAttributes 24 = .ok (.ifCond .lt 119, 3) := dk_155 0 119 (dk_at dksX16_readsAttributes_1 0 rfl rfl)
theorem dX16_readsAttributes_27 : decode cX16_readsAttributes 27 = .ok (.aload_n 0, 1) := dk_42 (dk_at dksX16_readsAttributes_1 3 rfl rfl)
theorem dX16_readsAttributes_28 : decode cX16_readsAttributes 28 = .ok (.invokevirtual 40, 3) := dk_182 0 40 (dk_at dksX16_readsAttributes_1 4 rfl rfl)
theorem dX16_readsAttributes_31 : decode cX16_readsAttributes 31 = .ok (.i2c, 1) := dk_146 (dk_at dksX16_readsAttributes_1 7 rfl rfl)
theorem dX16_readsAttributes_32 : decode cX16_readsAttributes 32 = .ok (.istore_n 3, 1) := dk_62 (dk_at dksX16_readsAttributes_1 8 rfl rfl)
theorem dX16_readsAttributes_33 : decode cX16_readsAttributes 33 = .ok (.iload_n 3, 1) := dk_29 (dk_at dksX16_readsAttributes_1 9 rfl rfl)
theorem dX16_readsAttributes_34 : decode cX16_readsAttributes 34 = .ok (.bipush 63, 2) := dk_16 63 (dk_at dksX16_readsAttributes_1 10 rfl rfl)
theorem dX16_readsAttributes_36 : decode cX16_readsAttributes 36 = .ok (.if_icmp .ne 19, 3) := dk_160 0 19 (dk_at dksX16_readsAttributes_1 12 rfl rfl)
theorem dX16_readsAttributes_39 : decode cX16_readsAttributes 39 = .ok (.aload_n 1, 1) := dk_43 (dk_at dksX16_readsAttributes_1 15 rfl rfl)
theorem dX16_readsAttributes_40 : decode cX16_readsAttributes 40 = .ok (.getfield 130, 3) := dk_180 0 130 (dk_at dksX16_readsAttributes_1 16 rfl rfl)
theorem dX16_readsAttributes_43 : decode cX16_readsAttributes 43 = .ok (.iconst 3, 1) := dk_6 (dk_at dksX16_readsAttributes_1 19 rfl rfl)
theorem dX16_readsAttributes_44 : decode cX16_readsAttributes 44 = .ok (.if_icmp .ge 7, 3) := dk_162 0 7 (dk_at dksX16_readsAttributes_1 20 rfl rfl)
theorem dX16_readsAttributes_47 : decode cX16_readsAttributes 47 = .ok (.iconst 1, 1) := dk_4 (dk_at dksX16_readsAttributes_1 23 rfl rfl)
theorem dX16_readsAttributes_48 : decode cX16_readsAttributes 48 = .ok (.goto 36, 3) := dk_167 0 36 (dk_at dksX16_readsAttributes_2 0 rfl rfl)
theorem dX16_readsAttributes_51 : decode cX16_readsAttributes 51 = .ok (.iconst 0, 1) := dk_3 (dk_at dksX16_readsAttributes_2 3 rfl rfl)
theorem dX16_readsAttributes_52 : decode cX16_readsAttributes 52 = .ok (.goto 32, 3) := dk_167 0 32 (dk_at dksX16_readsAttributes_2 4 rfl rfl)
theorem dX16_readsAttributes_55 : decode cX16_readsAttributes 55 = .ok (.aload_n 2, 1) := dk_44 (dk_at dksX16_readsAttributes_2 7 rfl rfl)
theorem dX16_readsAttributes_56 : decode cX16_readsAttributes 56 = .ok (.iload_n 3, 1) := dk_29 (dk_at dksX16_readsAttributes_2 8 rfl rfl)
theorem dX16_readsAttributes_57 : decode cX16_readsAttributes 57 = .ok (.invokestatic 133, 3) := dk_184 0 133 (dk_at dksX16_readsAttributes_2 9 rfl rfl)
theorem dX16_readsAttributes_60 : decode cX16_readsAttributes 60 = .ok (.invokevirtual 139, 3) := dk_182 0 139 (dk_at dksX16_readsAttributes_2 12 rfl rfl)
theorem dX16_readsAttributes_63 : decode cX16_readsAttributes 63 = .ok (.ifCond .ne 20, 3) := dk_154 0 20 (dk_at dksX16_readsAttributes_2 15 rfl rfl)
theorem dX16_readsAttributes_66 : decode cX16_readsAttributes 66 = .ok (.iload_n 3, 1) := dk_29 (dk_at dksX16_readsAttributes_2 18 rfl rfl)
theorem dX16_readsAttributes_67 : decode cX16_readsAttributes 67 = .ok (.bipush 64, 2) := dk_16 64 (dk_at dksX16_readsAttributes_2 19 rfl rfl)
theorem dX16_readsAttributes_69 : decode cX16_readsAttributes 69 = .ok (.if_icmp .ne 10, 3) := dk_160 0 10 (dk_at dksX16_readsAttributes_2 21 rfl rfl)
theorem dX16_readsAttributes_72 : decode cX16_readsAttributes 72 = .ok (.aload_n 1, 1) := dk_43 (dk_at dksX16_readsAttributes_3 0 rfl rfl)
theorem dX16_readsAttributes_73 : decode cX16_readsAttributes 73 = .ok (.getfield 143, 3) := dk_180 0 143 (dk_at dksX16_readsAttributes_3 1 rfl rfl)
theorem dX16_readsAttributes_76 : decode cX16_readsAttributes 76 = .ok (.ifnull 7, 3) := dk_198 0 7 (dk_at dksX16_readsAttributes_3 4 rfl rfl)
theorem dX16_readsAttributes_79 : decode cX16_readsAttributes 79 = .ok (.iconst 1, 1) := dk_4 (dk_at dksX16_readsAttributes_3 7 rfl rfl)
theorem dX16_readsAttributes_80 : decode cX16_readsAttributes 80 = .ok (.goto 4, 3) := dk_167 0 4 (dk_at dksX16_readsAttributes_3 8 rfl rfl)
theorem dX16_readsAttributes_83 : decode cX16_readsAttributes 83 = .ok (.iconst 0, 1) := dk_3 (dk_at dksX16_readsAttributes_3 11 rfl rfl)
theorem dX16_readsAttributes_84 : decode cX16_readsAttributes 84 = .ok (.istore 4, 2) := dk_54 4 (dk_at dksX16_readsAttributes_3 12 rfl rfl)
theorem dX16_readsAttributes_86 : decode cX16_readsAttributes 86 = .ok (.iload 4, 2) := dk_21 4 (dk_at dksX16_readsAttributes_3 14 rfl rfl)
theorem dX16_readsAttributes_88 : decode cX16_readsAttributes 88 = .ok (.ifCond .ne 5, 3) := dk_154 0 5 (dk_at dksX16_readsAttributes_3 16 rfl rfl)
theorem dX16_readsAttributes_91 : decode cX16_readsAttributes 91 = .ok (.iconst 0, 1) := dk_3 (dk_at dksX16_readsAttributes_3 19 rfl rfl)
theorem dX16_readsAttributes_92 : decode cX16_readsAttributes 92 = .ok (.ireturn, 1) := dk_172 (dk_at dksX16_readsAttributes_3 20 rfl rfl)
theorem dX16_readsAttributes_93 : decode cX16_readsAttributes 93 = .ok (.aload_n 0, 1) := dk_42 (dk_at dksX16_readsAttributes_3 21 rfl rfl)
theorem dX16_readsAttributes_94 : decode cX16_readsAttributes 94 = .ok (.dup, 1) := dk_89 (dk_at dksX16_readsAttributes_3 22 rfl rfl)
theorem dX16_readsAttributes_95 : decode cX16_readsAttributes 95 = .ok (.getfield 22, 3) := dk_180 0 22 (dk_at dksX16_readsAttributes_4 0 rfl rfl)
theorem dX16_readsAttributes_98 : decode cX16_readsAttributes 98 = .ok (.iconst 1, 1) := dk_4 (dk_at dksX16_readsAttributes_4 3 rfl rfl)
theorem dX16_readsAttributes_99 : decode cX16_readsAttributes 99 = .ok (.iadd, 1) := dk_96 (dk_at dksX16_readsAttributes_4 4 rfl rfl)
theorem dX16_readsAttributes_100 : decode cX16_readsAttributes 100 = .ok (.putfield 22, 3) := dk_181 0 22 (dk_at dksX16_readsAttributes_4 5 rfl rfl)
theorem dX16_readsAttributes_103 : decode cX16_readsAttributes 103 = .ok (.aload_n 2, 1) := dk_44 (dk_at dksX16_readsAttributes_4 8 rfl rfl)
theorem dX16_readsAttributes_104 : decode cX16_readsAttributes 104 = .ok (.iload_n 3, 1) := dk_29 (dk_at dksX16_readsAttributes_4 9 rfl rfl)
theorem dX16_readsAttributes_105 : decode cX16_readsAttributes 105 = .ok (.invokestatic 133, 3) := dk_184 0 133 (dk_at dksX16_readsAttributes_4 10 rfl rfl)
theorem dX16_readsAttributes_108 : decode cX16_readsAttributes 108 = .ok (.invokevirtual 147, 3) := dk_182 0 147 (dk_at dksX16_readsAttributes_4 13 rfl rfl)
theorem dX16_readsAttributes_111 : decode cX16_readsAttributes 111 = .ok (.pop, 1) := dk_87 (dk_at dksX16_readsAttributes_4 16 rfl rfl)
theorem dX16_readsAttributes_112 : decode cX16_readsAttributes 112 = .ok (.iload_n 3, 1) := dk_29 (dk_at dksX16_readsAttributes_4 17 rfl rfl)
theorem dX16_readsAttributes_113 : decode cX16_readsAttributes 113 = .ok (.bipush 63, 2) := dk_16 63 (dk_at dksX16_readsAttributes_4 18 rfl rfl)
theorem dX16_readsAttributes_115 : decode cX16_readsAttributes 115 = .ok (.if_icmp .ne 14, 3) := dk_160 0 14 (dk_at dksX16_readsAttributes_4 20 rfl rfl)
theorem dX16_readsAttributes_118 : decode cX16_readsAttributes 118 = .ok (.aload_n 0, 1) := dk_42 (dk_at dksX16_readsAttributes_4 23 rfl rfl)
theorem dX16_readsAttributes_119 : decode cX16_readsAttributes 119 = .ok (.aload_n 1, 1) := dk_43 (dk_at dksX16_readsAttributes_5 0 rfl rfl)
theorem dX16_readsAttributes_120 : decode cX16_readsAttributes 120 = .ok (.invokevirtual 149, 3) := dk_182 0 149 (dk_at dksX16_readsAttributes_5 1 rfl rfl)
theorem dX16_readsAttributes_123 : decode cX16_readsAttributes 123 = .ok (.ifCond .ne 17, 3) := dk_154 0 17 (dk_at dksX16_readsAttributes_5 4 rfl rfl)
theorem dX16_readsAttributes_126 : decode cX16_readsAttributes 126 = .ok (.goto 12, 3) := dk_167 0 12 (dk_at dksX16_readsAttributes_5 7 rfl rfl)
theorem dX16_readsAttributes_129 : decode cX16_readsAttributes 129 = .ok (.aload_n 0, 1) := dk_42 (dk_at dksX16_readsAttributes_5 10 rfl rfl)
theorem dX16_readsAttributes_130 : decode cX16_readsAttributes 130 = .ok (.aload_n 1, 1) := dk_43 (dk_at dksX16_readsAttributes_5 11 rfl rfl)
theorem dX16_readsAttributes_131 : decode cX16_readsAttributes 131 = .ok (.iload_n 3, 1) := dk_29 (dk_at dksX16_readsAttributes_5 12 rfl rfl)
theorem dX16_readsAttributes_132 : decode cX16_readsAttributes 132 = .ok (.invokevirtual 153, 3) := dk_182 0 153 (dk_at dksX16_readsAttributes_5 13 rfl rfl)
theorem dX16_readsAttributes_135 : decode cX16_readsAttributes 135 = .ok (.ifCond .ne 5, 3) := dk_154 0 5 (dk_at dksX16_readsAttributes_5 16 rfl rfl)
theorem dX16_readsAttributes_138 : decode cX16_readsAttributes 138 = .ok (.iconst 0, 1) := dk_3 (dk_at dksX16_readsAttributes_5 19 rfl rfl)
theorem dX16_readsAttributes_139 : decode cX16_readsAttributes 139 = .ok (.ireturn, 1) := dk_172 (dk_at dksX16_readsAttributes_5 20 rfl rfl)
theorem dX16_readsAttributes_140 : decode cX16_readsAttributes 140 = .ok (.goto (-132), 3) := dk_167 255 124 (dk_at dksX16_readsAttributes_5 21 rfl rfl)
theorem dX16_readsAttributes_143 : decode cX16_readsAttributes 143 = .ok (.iconst 1, 1) := dk_4 (dk_at dksX16_readsAttributes_6 0 rfl rfl)
theorem dX16_readsAttributes_144 : decode cX16_readsAttributes 144 = .ok (.ireturn, 1) := dk_172 (dk_at dksX16_readsAttributes_6 1 rfl rfl)
abbrev cX16_readsCondition : ByteArray := prog_13_method_8_code
def yX16_readsCondition : MethodName := ⟨RX16, "readsCondition", "(LAnimationController$Transition;)Z"⟩
def dkwX16_readsCondition_7 : List UInt8 := [4, 172]
abbrev dktX16_readsCondition_7 : List UInt8 := dkwX16_readsCondition_7 ++ []
def dkwX16_readsCondition_6 : List UInt8 := [153, 0, 11, 42, 180, 0, 55, 116, 167, 0, 7, 42, 180, 0, 55, 184, 0, 87, 183, 0, 91, 182, 0, 94]
abbrev dktX16_readsCondition_6 : List UInt8 := dkwX16_readsCondition_6 ++ dktX16_readsCondition_7
def dkwX16_readsCondition_5 : List UInt8 := [54, 5, 42, 3, 16, 100, 182, 0, 108, 154, 0, 5, 3, 172, 43, 187, 0, 85, 89, 45, 21, 4, 21, 5]
abbrev dktX16_readsCondition_5 : List UInt8 := dkwX16_readsCondition_5 ++ dktX16_readsCondition_6
def dkwX16_readsCondition_4 : List UInt8 := [21, 4, 156, 0, 5, 3, 172, 42, 89, 180, 0, 22, 4, 96, 181, 0, 22, 42, 16, 45, 182, 0, 75]
abbrev dktX16_readsCondition_4 : List UInt8 := dkwX16_readsCondition_4 ++ dktX16_readsCondition_5
def dkwX16_readsCondition_3 : List UInt8 := [4, 172, 42, 182, 0, 40, 156, 0, 7, 2, 167, 0, 12, 18, 100, 42, 182, 0, 40, 182, 0, 102, 54, 4]
abbrev dktX16_readsCondition_3 : List UInt8 := dkwX16_readsCondition_3 ++ dktX16_readsCondition_4
def dkwX16_readsCondition_2 : List UInt8 := [187, 0, 85, 89, 45, 5, 28, 153, 0, 7, 3, 167, 0, 4, 4, 184, 0, 87, 183, 0, 91, 182, 0, 94]
abbrev dktX16_readsCondition_2 : List UInt8 := dkwX16_readsCondition_2 ++ dktX16_readsCondition_3
def dkwX16_readsCondition_1 : List UInt8 := [4, 159, 0, 5, 3, 172, 42, 89, 180, 0, 22, 4, 96, 181, 0, 22, 45, 180, 0, 82, 153, 0, 30, 43]
abbrev dktX16_readsCondition_1 : List UInt8 := dkwX16_readsCondition_1 ++ dktX16_readsCondition_2
def dkwX16_readsCondition_0 : List UInt8 := [42, 16, 126, 182, 0, 75, 61, 42, 182, 0, 78, 78, 45, 198, 0, 15, 28, 153, 0, 13, 45, 180, 0, 82]
abbrev dktX16_readsCondition_0 : List UInt8 := dkwX16_readsCondition_0 ++ dktX16_readsCondition_1
theorem dksX16_readsCondition_0 : cX16_readsCondition.data.toList.drop 0 = dktX16_readsCondition_0 := by decide +kernel
theorem dksX16_readsCondition_1 : cX16_readsCondition.data.toList.drop 24 = dktX16_readsCondition_1 := dk_seg dksX16_readsCondition_0 24 rfl rfl
theorem dksX16_readsCondition_2 : cX16_readsCondition.data.toList.drop 48 = dktX16_readsCondition_2 := dk_seg dksX16_readsCondition_1 24 rfl rfl
theorem dksX16_readsCondition_3 : cX16_readsCondition.data.toList.drop 72 = dktX16_readsCondition_3 := dk_seg dksX16_readsCondition_2 24 rfl rfl
theorem dksX16_readsCondition_4 : cX16_readsCondition.data.toList.drop 96 = dktX16_readsCondition_4 := dk_seg dksX16_readsCondition_3 24 rfl rfl
theorem dksX16_readsCondition_5 : cX16_readsCondition.data.toList.drop 119 = dktX16_readsCondition_5 := dk_seg dksX16_readsCondition_4 23 rfl rfl
theorem dksX16_readsCondition_6 : cX16_readsCondition.data.toList.drop 143 = dktX16_readsCondition_6 := dk_seg dksX16_readsCondition_5 24 rfl rfl
theorem dksX16_readsCondition_7 : cX16_readsCondition.data.toList.drop 167 = dktX16_readsCondition_7 := dk_seg dksX16_readsCondition_6 24 rfl rfl
theorem dX16_readsCondition_0 : decode cX16_readsCondition 0 = .ok (.aload_n 0, 1) := dk_42 (dk_at dksX16_readsCondition_0 0 rfl rfl)
theorem dX16_readsCondition_1 : decode cX16_readsCondition 1 = .ok (.bipush 126, 2) := dk_16 126 (dk_at dksX16_readsCondition_0 1 rfl rfl)
theorem dX16_readsCondition_3 : decode cX16_readsCondition 3 = .ok (.invokevirtual 75, 3) := dk_182 0 75 (dk_at dksX16_readsCondition_0 3 rfl rfl)
theorem dX16_readsCondition_6 : decode cX16_readsCondition 6 = .ok (.istore_n 2, 1) := dk_61 (dk_at dksX16_readsCondition_0 6 rfl rfl)
theorem dX16_readsCondition_7 : decode cX16_readsCondition 7 = .ok (.aload_n 0, 1) := dk_42 (dk_at dksX16_readsCondition_0 7 rfl rfl)
theorem dX16_readsCondition_8 : decode cX16_readsCondition 8 = .ok (.invokevirtual 78, 3) := dk_182 0 78 (dk_at dksX16_readsCondition_0 8 rfl rfl)
theorem dX16_readsCondition_11 : decode cX16_readsCondition 11 = .ok (.astore_n 3, 1) := dk_78 (dk_at dksX16_readsCondition_0 11 rfl rfl)
theorem dX16_readsCondition_12 : decode cX16_readsCondition 12 = .ok (.aload_n 3, 1) := dk_45 (dk_at dksX16_readsCondition_0 12 rfl rfl)
theorem dX16_readsCondition_13 : decode cX16_readsCondition 13 = .ok (.ifnull 15, 3) := dk_198 0 15 (dk_at dksX16_readsCondition_0 13 rfl rfl)
theorem dX16_readsCondition_16 : decode cX16_readsCondition 16 = .ok (.iload_n 2, 1) := dk_28 (dk_at dksX16_readsCondition_0 16 rfl rfl)
theorem dX16_readsCondition_17 : decode cX16_readsCondition 17 = .ok (.ifCond .eq 13, 3) := dk_153 0 13 (dk_at dksX16_readsCondition_0 17 rfl rfl)
theorem dX16_readsCondition_20 : decode cX16_readsCondition 20 = .ok (.aload_n 3, 1) := dk_45 (dk_at dksX16_readsCondition_0 20 rfl rfl)
theorem dX16_readsCondition_21 : decode cX16_readsCondition 21 = .ok (.getfield 82, 3) := dk_180 0 82 (dk_at dksX16_readsCondition_0 21 rfl rfl)
theorem dX16_readsCondition_24 : decode cX16_readsCondition 24 = .ok (.iconst 1, 1) := dk_4 (dk_at dksX16_readsCondition_1 0 rfl rfl)
theorem dX16_readsCondition_25 : decode cX16_readsCondition 25 = .ok (.if_icmp .eq 5, 3) := dk_159 0 5 (dk_at dksX16_readsCondition_1 1 rfl rfl)
theorem dX16_readsCondition_28 : decode cX16_readsCondition 28 = .ok (.iconst 0, 1) := dk_3 (dk_at dksX16_readsCondition_1 4 rfl rfl)
theorem dX16_readsCondition_29 : decode cX16_readsCondition 29 = .ok (.ireturn, 1) := dk_172 (dk_at dksX16_readsCondition_1 5 rfl rfl)
theorem dX16_readsCondition_30 : decode cX16_readsCondition 30 = .ok (.aload_n 0, 1) := dk_42 (dk_at dksX16_readsCondition_1 6 rfl rfl)
theorem dX16_readsCondition_31 : decode cX16_readsCondition 31 = .ok (.dup, 1) := dk_89 (dk_at dksX16_readsCondition_1 7 rfl rfl)
theorem dX16_readsCondition_32 : decode cX16_readsCondition 32 = .ok (.getfield 22, 3) := dk_180 0 22 (dk_at dksX16_readsCondition_1 8 rfl rfl)
theorem dX16_readsCondition_35 : decode cX16_readsCondition 35 = .ok (.iconst 1, 1) := dk_4 (dk_at dksX16_readsCondition_1 11 rfl rfl)
theorem dX16_readsCondition_36 : decode cX16_readsCondition 36 = .ok (.iadd, 1) := dk_96 (dk_at dksX16_readsCondition_1 12 rfl rfl)
theorem dX16_readsCondition_37 : decode cX16_readsCondition 37 = .ok (.putfield 22, 3) := dk_181 0 22 (dk_at dksX16_readsCondition_1 13 rfl rfl)
theorem dX16_readsCondition_40 : decode cX16_readsCondition 40 = .ok (.aload_n 3, 1) := dk_45 (dk_at dksX16_readsCondition_1 16 rfl rfl)
theorem dX16_readsCondition_41 : decode cX16_readsCondition 41 = .ok (.getfield 82, 3) := dk_180 0 82 (dk_at dksX16_readsCondition_1 17 rfl rfl)
theorem dX16_readsCondition_44 : decode cX16_readsCondition 44 = .ok (.ifCond .eq 30, 3) := dk_153 0 30 (dk_at dksX16_readsCondition_1 20 rfl rfl)
theorem dX16_readsCondition_47 : decode cX16_readsCondition 47 = .ok (.aload_n 1, 1) := dk_43 (dk_at dksX16_readsCondition_1 23 rfl rfl)
theorem dX16_readsCondition_48 : decode cX16_readsCondition 48 = .ok (.new 85, 3) := dk_187 0 85 (dk_at dksX16_readsCondition_2 0 rfl rfl)
theorem dX16_readsCondition_51 : decode cX16_readsCondition 51 = .ok (.dup, 1) := dk_89 (dk_at dksX16_readsCondition_2 3 rfl rfl)
theorem dX16_readsCondition_52 : decode cX16_readsCondition 52 = .ok (.aload_n 3, 1) := dk_45 (dk_at dksX16_readsCondition_2 4 rfl rfl)
theorem dX16_readsCondition_53 : decode cX16_readsCondition 53 = .ok (.iconst 2, 1) := dk_5 (dk_at dksX16_readsCondition_2 5 rfl rfl)
theorem dX16_readsCondition_54 : decode cX16_readsCondition 54 = .ok (.iload_n 2, 1) := dk_28 (dk_at dksX16_readsCondition_2 6 rfl rfl)
theorem dX16_readsCondition_55 : decode cX16_readsCondition 55 = .ok (.ifCond .eq 7, 3) := dk_153 0 7 (dk_at dksX16_readsCondition_2 7 rfl rfl)
theorem dX16_readsCondition_58 : decode cX16_readsCondition 58 = .ok (.iconst 0, 1) := dk_3 (dk_at dksX16_readsCondition_2 10 rfl rfl)
theorem dX16_readsCondition_59 : decode cX16_readsCondition 59 = .ok (.goto 4, 3) := dk_167 0 4 (dk_at dksX16_readsCondition_2 11 rfl rfl)
theorem dX16_readsCondition_62 : decode cX16_readsCondition 62 = .ok (.iconst 1, 1) := dk_4 (dk_at dksX16_readsCondition_2 14 rfl rfl)
theorem dX16_readsCondition_63 : decode cX16_readsCondition 63 = .ok (.invokestatic 87, 3) := dk_184 0 87 (dk_at dksX16_readsCondition_2 15 rfl rfl)
theorem dX16_readsCondition_66 : decode cX16_readsCondition 66 = .ok (.invokespecial 91, 3) := dk_183 0 91 (dk_at dksX16_readsCondition_2 18 rfl rfl)
theorem dX16_readsCondition_69 : decode cX16_readsCondition 69 = .ok (.invokevirtual 94, 3) := dk_182 0 94 (dk_at dksX16_readsCondition_2 21 rfl rfl)
theorem dX16_readsCondition_72 : decode cX16_readsCondition 72 = .ok (.iconst 1, 1) := dk_4 (dk_at dksX16_readsCondition_3 0 rfl rfl)
theorem dX16_readsCondition_73 : decode cX16_readsCondition 73 = .ok (.ireturn, 1) := dk_172 (dk_at dksX16_readsCondition_3 1 rfl rfl)
theorem dX16_readsCondition_74 : decode cX16_readsCondition 74 = .ok (.aload_n 0, 1) := dk_42 (dk_at dksX16_readsCondition_3 2 rfl rfl)
theorem dX16_readsCondition_75 : decode cX16_readsCondition 75 = .ok (.invokevirtual 40, 3) := dk_182 0 40 (dk_at dksX16_readsCondition_3 3 rfl rfl)
theorem dX16_readsCondition_78 : decode cX16_readsCondition 78 = .ok (.ifCond .ge 7, 3) := dk_156 0 7 (dk_at dksX16_readsCondition_3 6 rfl rfl)
theorem dX16_readsCondition_81 : decode cX16_readsCondition 81 = .ok (.iconst (-1), 1) := dk_2 (dk_at dksX16_readsCondition_3 9 rfl rfl)
theorem dX16_readsCondition_82 : decode cX16_readsCondition 82 = .ok (.goto 12, 3) := dk_167 0 12 (dk_at dksX16_readsCondition_3 10 rfl rfl)
theorem dX16_readsCondition_85 : decode cX16_readsCondition 85 = .ok (.ldc 100, 2) := dk_18 100 (dk_at dksX16_readsCondition_3 13 rfl rfl)
theorem dX16_readsCondition_87 : decode cX16_readsCondition 87 = .ok (.aload_n 0, 1) := dk_42 (dk_at dksX16_readsCondition_3 15 rfl rfl)
theorem dX16_readsCondition_88 : decode cX16_readsCondition 88 = .ok (.invokevirtual 40, 3) := dk_182 0 40 (dk_at dksX16_readsCondition_3 16 rfl rfl)
theorem dX16_readsCondition_91 : decode cX16_readsCondition 91 = .ok (.invokevirtual 102, 3) := dk_182 0 102 (dk_at dksX16_readsCondition_3 19 rfl rfl)
theorem dX16_readsCondition_94 : decode cX16_readsCondition 94 = .ok (.istore 4, 2) := dk_54 4 (dk_at dksX16_readsCondition_3 22 rfl rfl)
theorem dX16_readsCondition_96 : decode cX16_readsCondition 96 = .ok (.iload 4, 2) := dk_21 4 (dk_at dksX16_readsCondition_4 0 rfl rfl)
theorem dX16_readsCondition_98 : decode cX16_readsCondition 98 = .ok (.ifCond .ge 5, 3) := dk_156 0 5 (dk_at dksX16_readsCondition_4 2 rfl rfl)
theorem dX16_readsCondition_101 : decode cX16_readsCondition 101 = .ok (.iconst 0, 1) := dk_3 (dk_at dksX16_readsCondition_4 5 rfl rfl)
theorem dX16_readsCondition_102 : decode cX16_readsCondition 102 = .ok (.ireturn, 1) := dk_172 (dk_at dksX16_readsCondition_4 6 rfl rfl)
theorem dX16_readsCondition_103 : decode cX16_readsCondition 103 = .ok (.aload_n 0, 1) := dk_42 (dk_at dksX16_readsCondition_4 7 rfl rfl)
theorem dX16_readsCondition_104 : decode cX16_readsCondition 104 = .ok (.dup, 1) := dk_89 (dk_at dksX16_readsCondition_4 8 rfl rfl)
theorem dX16_readsCondition_105 : decode cX16_readsCondition 105 = .ok (.getfield 22, 3) := dk_180 0 22 (dk_at dksX16_readsCondition_4 9 rfl rfl)
theorem dX16_readsCondition_108 : decode cX16_readsCondition 108 = .ok (.iconst 1, 1) := dk_4 (dk_at dksX16_readsCondition_4 12 rfl rfl)
theorem dX16_readsCondition_109 : decode cX16_readsCondition 109 = .ok (.iadd, 1) := dk_96 (dk_at dksX16_readsCondition_4 13 rfl rfl)
theorem dX16_readsCondition_110 : decode cX16_readsCondition 110 = .ok (.putfield 22, 3) := dk_181 0 22 (dk_at dksX16_readsCondition_4 14 rfl rfl)
theorem dX16_readsCondition_113 : decode cX16_readsCondition 113 = .ok (.aload_n 0, 1) := dk_42 (dk_at dksX16_readsCondition_4 17 rfl rfl)
theorem dX16_readsCondition_114 : decode cX16_readsCondition 114 = .ok (.bipush 45, 2) := dk_16 45 (dk_at dksX16_readsCondition_4 18 rfl rfl)
theorem dX16_readsCondition_116 : decode cX16_readsCondition 116 = .ok (.invokevirtual 75, 3) := dk_182 0 75 (dk_at dksX16_readsCondition_4 20 rfl rfl)
theorem dX16_readsCondition_119 : decode cX16_readsCondition 119 = .ok (.istore 5, 2) := dk_54 5 (dk_at dksX16_readsCondition_5 0 rfl rfl)
theorem dX16_readsCondition_121 : decode cX16_readsCondition 121 = .ok (.aload_n 0, 1) := dk_42 (dk_at dksX16_readsCondition_5 2 rfl rfl)
theorem dX16_readsCondition_122 : decode cX16_readsCondition 122 = .ok (.iconst 0, 1) := dk_3 (dk_at dksX16_readsCondition_5 3 rfl rfl)
theorem dX16_readsCondition_123 : decode cX16_readsCondition 123 = .ok (.bipush 100, 2) := dk_16 100 (dk_at dksX16_readsCondition_5 4 rfl rfl)
theorem dX16_readsCondition_125 : decode cX16_readsCondition 125 = .ok (.invokevirtual 108, 3) := dk_182 0 108 (dk_at dksX16_readsCondition_5 6 rfl rfl)
theorem dX16_readsCondition_128 : decode cX16_readsCondition 128 = .ok (.ifCond .ne 5, 3) := dk_154 0 5 (dk_at dksX16_readsCondition_5 9 rfl rfl)
theorem dX16_readsCondition_131 : decode cX16_readsCondition 131 = .ok (.iconst 0, 1) := dk_3 (dk_at dksX16_readsCondition_5 12 rfl rfl)
theorem dX16_readsCondition_132 : decode cX16_readsCondition 132 = .ok (.ireturn, 1) := dk_172 (dk_at dksX16_readsCondition_5 13 rfl rfl)
theorem dX16_readsCondition_133 : decode cX16_readsCondition 133 = .ok (.aload_n 1, 1) := dk_43 (dk_at dksX16_readsCondition_5 14 rfl rfl)
theorem dX16_readsCondition_134 : decode cX16_readsCondition 134 = .ok (.new 85, 3) := dk_187 0 85 (dk_at dksX16_readsCondition_5 15 rfl rfl)
theorem dX16_readsCondition_137 : decode cX16_readsCondition 137 = .ok (.dup, 1) := dk_89 (dk_at dksX16_readsCondition_5 18 rfl rfl)
theorem dX16_readsCondition_138 : decode cX16_readsCondition 138 = .ok (.aload_n 3, 1) := dk_45 (dk_at dksX16_readsCondition_5 19 rfl rfl)
theorem dX16_readsCondition_139 : decode cX16_readsCondition 139 = .ok (.iload 4, 2) := dk_21 4 (dk_at dksX16_readsCondition_5 20 rfl rfl)
theorem dX16_readsCondition_141 : decode cX16_readsCondition 141 = .ok (.iload 5, 2) := dk_21 5 (dk_at dksX16_readsCondition_5 22 rfl rfl)
theorem dX16_readsCondition_143 : decode cX16_readsCondition 143 = .ok (.ifCond .eq 11, 3) := dk_153 0 11 (dk_at dksX16_readsCondition_6 0 rfl rfl)
theorem dX16_readsCondition_146 : decode cX16_readsCondition 146 = .ok (.aload_n 0, 1) := dk_42 (dk_at dksX16_readsCondition_6 3 rfl rfl)
theorem dX16_readsCondition_147 : decode cX16_readsCondition 147 = .ok (.getfield 55, 3) := dk_180 0 55 (dk_at dksX16_readsCondition_6 4 rfl rfl)
theorem dX16_readsCondition_150 : decode cX16_readsCondition 150 = .ok (.ineg, 1) := dk_116 (dk_at dksX16_readsCondition_6 7 rfl rfl)
theorem dX16_readsCondition_151 : decode cX16_readsCondition 151 = .ok (.goto 7, 3) := dk_167 0 7 (dk_at dksX16_readsCondition_6 8 rfl rfl)
theorem dX16_readsCondition_154 : decode cX16_readsCondition 154 = .ok (.aload_n 0, 1) := dk_42 (dk_at dksX16_readsCondition_6 11 rfl rfl)
theorem dX16_readsCondition_155 : decode cX16_readsCondition 155 = .ok (.getfield 55, 3) := dk_180 0 55 (dk_at dksX16_readsCondition_6 12 rfl rfl)
theorem dX16_readsCondition_158 : decode cX16_readsCondition 158 = .ok (.invokestatic 87, 3) := dk_184 0 87 (dk_at dksX16_readsCondition_6 15 rfl rfl)
theorem dX16_readsCondition_161 : decode cX16_readsCondition 161 = .ok (.invokespecial 91, 3) := dk_183 0 91 (dk_at dksX16_readsCondition_6 18 rfl rfl)
theorem dX16_readsCondition_164 : decode cX16_readsCondition 164 = .ok (.invokevirtual 94, 3) := dk_182 0 94 (dk_at dksX16_readsCondition_6 21 rfl rfl)
theorem dX16_readsCondition_167 : decode cX16_readsCondition 167 = .ok (.iconst 1, 1) := dk_4 (dk_at dksX16_readsCondition_7 0 rfl rfl)
theorem dX16_readsCondition_168 : decode cX16_readsCondition 168 = .ok (.ireturn, 1) := dk_172 (dk_at dksX16_readsCondition_7 1 rfl rfl)
abbrev cX16_readsParameter : ByteArray := prog_13_method_7_code
def yX16_readsParameter : MethodName := ⟨RX16, "readsParameter", "()LAnimationController$Parameter;"⟩
def dkwX16_readsParameter_1 : List UInt8 := [184, 0, 47, 154, 0, 5, 1, 176, 42, 180, 0, 3, 180, 0, 70, 27, 182, 0, 64, 192, 0, 73, 176]
abbrev dktX16_readsParameter_1 : List UInt8 := dkwX16_readsParameter_1 ++ []
def dkwX16_readsParameter_0 : List UInt8 := [42, 182, 0, 40, 16, 97, 100, 60, 27, 133, 9, 42, 180, 0, 3, 180, 0, 70, 182, 0, 61, 4, 100, 133]
abbrev dktX16_readsParameter_0 : List UInt8 := dkwX16_readsParameter_0 ++ dktX16_readsParameter_1
theorem dksX16_readsParameter_0 : cX16_readsParameter.data.toList.drop 0 = dktX16_readsParameter_0 := by decide +kernel
theorem dksX16_readsParameter_1 : cX16_readsParameter.data.toList.drop 24 = dktX16_readsParameter_1 := dk_seg dksX16_readsParameter_0 24 rfl rfl
theorem dX16_readsParameter_0 : decode cX16_readsParameter 0 = .ok (.aload_n 0, 1) := dk_42 (dk_at dksX16_readsParameter_0 0 rfl rfl)
theorem dX16_readsParameter_1 : decode cX16_readsParameter 1 = .ok (.invokevirtual 40, 3) := dk_182 0 40 (dk_at dksX16_readsParameter_0 1 rfl rfl)
theorem dX16_readsParameter_4 : decode cX16_readsParameter 4 = .ok (.bipush 97, 2) := dk_16 97 (dk_at dksX16_readsParameter_0 4 rfl rfl)
theorem dX16_readsParameter_6 : decode cX16_readsParameter 6 = .ok (.isub, 1) := dk_100 (dk_at dksX16_readsParameter_0 6 rfl rfl)
theorem dX16_readsParameter_7 : decode cX16_readsParameter 7 = .ok (.istore_n 1, 1) := dk_60 (dk_at dksX16_readsParameter_0 7 rfl rfl)
theorem dX16_readsParameter_8 : decode cX16_readsParameter 8 = .ok (.iload_n 1, 1) := dk_27 (dk_at dksX16_readsParameter_0 8 rfl rfl)
theorem dX16_readsParameter_9 : decode cX16_readsParameter 9 = .ok (.i2l, 1) := dk_133 (dk_at dksX16_readsParameter_0 9 rfl rfl)
theorem dX16_readsParameter_10 : decode cX16_readsParameter 10 = .ok (.lconst 0, 1) := dk_9 (dk_at dksX16_readsParameter_0 10 rfl rfl)
theorem dX16_readsParameter_11 : decode cX16_readsParameter 11 = .ok (.aload_n 0, 1) := dk_42 (dk_at dksX16_readsParameter_0 11 rfl rfl)
theorem dX16_readsParameter_12 : decode cX16_readsParameter 12 = .ok (.getfield 3, 3) := dk_180 0 3 (dk_at dksX16_readsParameter_0 12 rfl rfl)
theorem dX16_readsParameter_15 : decode cX16_readsParameter 15 = .ok (.getfield 70, 3) := dk_180 0 70 (dk_at dksX16_readsParameter_0 15 rfl rfl)
theorem dX16_readsParameter_18 : decode cX16_readsParameter 18 = .ok (.invokevirtual 61, 3) := dk_182 0 61 (dk_at dksX16_readsParameter_0 18 rfl rfl)
theorem dX16_readsParameter_21 : decode cX16_readsParameter 21 = .ok (.iconst 1, 1) := dk_4 (dk_at dksX16_readsParameter_0 21 rfl rfl)
theorem dX16_readsParameter_22 : decode cX16_readsParameter 22 = .ok (.isub, 1) := dk_100 (dk_at dksX16_readsParameter_0 22 rfl rfl)
theorem dX16_readsParameter_23 : decode cX16_readsParameter 23 = .ok (.i2l, 1) := dk_133 (dk_at dksX16_readsParameter_0 23 rfl rfl)
theorem dX16_readsParameter_24 : decode cX16_readsParameter 24 = .ok (.invokestatic 47, 3) := dk_184 0 47 (dk_at dksX16_readsParameter_1 0 rfl rfl)
theorem dX16_readsParameter_27 : decode cX16_readsParameter 27 = .ok (.ifCond .ne 5, 3) := dk_154 0 5 (dk_at dksX16_readsParameter_1 3 rfl rfl)
theorem dX16_readsParameter_30 : decode cX16_readsParameter 30 = .ok (.aconst_null, 1) := dk_1 (dk_at dksX16_readsParameter_1 6 rfl rfl)
theorem dX16_readsParameter_31 : decode cX16_readsParameter 31 = .ok (.areturn, 1) := dk_176 (dk_at dksX16_readsParameter_1 7 rfl rfl)
theorem dX16_readsParameter_32 : decode cX16_readsParameter 32 = .ok (.aload_n 0, 1) := dk_42 (dk_at dksX16_readsParameter_1 8 rfl rfl)
theorem dX16_readsParameter_33 : decode cX16_readsParameter 33 = .ok (.getfield 3, 3) := dk_180 0 3 (dk_at dksX16_readsParameter_1 9 rfl rfl)
theorem dX16_readsParameter_36 : decode cX16_readsParameter 36 = .ok (.getfield 70, 3) := dk_180 0 70 (dk_at dksX16_readsParameter_1 12 rfl rfl)
theorem dX16_readsParameter_39 : decode cX16_readsParameter 39 = .ok (.iload_n 1, 1) := dk_27 (dk_at dksX16_readsParameter_1 15 rfl rfl)
theorem dX16_readsParameter_40 : decode cX16_readsParameter 40 = .ok (.invokevirtual 64, 3) := dk_182 0 64 (dk_at dksX16_readsParameter_1 16 rfl rfl)
theorem dX16_readsParameter_43 : decode cX16_readsParameter 43 = .ok (.checkcast 73, 3) := dk_192 0 73 (dk_at dksX16_readsParameter_1 19 rfl rfl)
theorem dX16_readsParameter_46 : decode cX16_readsParameter 46 = .ok (.areturn, 1) := dk_176 (dk_at dksX16_readsParameter_1 22 rfl rfl)
abbrev cX16_readsValue : ByteArray := prog_13_method_9_code
def yX16_readsValue : MethodName := ⟨RX16, "readsValue", "(LAnimationController$Transition;C)Z"⟩
def dkwX16_readsValue_4 : List UInt8 := [43, 42, 180, 0, 55, 181, 0, 118, 21, 5, 172, 43, 4, 181, 0, 121, 4, 172]
abbrev dktX16_readsValue_4 : List UInt8 := dkwX16_readsValue_4 ++ []
def dkwX16_readsValue_3 : List UInt8 := [182, 0, 108, 54, 4, 43, 42, 180, 0, 55, 181, 0, 115, 21, 4, 172, 42, 3, 7, 182, 0, 108, 54, 5]
abbrev dktX16_readsValue_3 : List UInt8 := dkwX16_readsValue_3 ++ dktX16_readsValue_4
def dkwX16_readsValue_2 : List UInt8 := [42, 3, 17, 1, 44, 182, 0, 108, 62, 43, 42, 180, 0, 55, 181, 0, 112, 29, 172, 42, 3, 16, 99]
abbrev dktX16_readsValue_2 : List UInt8 := dkwX16_readsValue_2 ++ dktX16_readsValue_3
def dkwX16_readsValue_1 : List UInt8 := [171, 0, 0, 0, 0, 0, 93, 0, 0, 0, 3, 0, 0, 0, 33, 0, 0, 0, 74, 0, 0, 0, 43, 0, 0, 0, 54, 0, 0, 0, 64, 0, 0, 0, 35]
abbrev dktX16_readsValue_1 : List UInt8 := dkwX16_readsValue_1 ++ dktX16_readsValue_2
def dkwX16_readsValue_0 : List UInt8 := [28]
abbrev dktX16_readsValue_0 : List UInt8 := dkwX16_readsValue_0 ++ dktX16_readsValue_1
theorem dksX16_readsValue_0 : cX16_readsValue.data.toList.drop 0 = dktX16_readsValue_0 := by decide +kernel
theorem dksX16_readsValue_1 : cX16_readsValue.data.toList.drop 1 = dktX16_readsValue_1 := dk_seg dksX16_readsValue_0 1 rfl rfl
theorem dksX16_readsValue_2 : cX16_readsValue.data.toList.drop 36 = dktX16_readsValue_2 := dk_seg dksX16_readsValue_1 35 rfl rfl
theorem dksX16_readsValue_3 : cX16_readsValue.data.toList.drop 59 = dktX16_readsValue_3 := dk_seg dksX16_readsValue_2 23 rfl rfl
theorem dksX16_readsValue_4 : cX16_readsValue.data.toList.drop 83 = dktX16_readsValue_4 := dk_seg dksX16_readsValue_3 24 rfl rfl
theorem dX16_readsValue_0 : decode cX16_readsValue 0 = .ok (.iload_n 2, 1) := dk_28 (dk_at dksX16_readsValue_0 0 rfl rfl)
theorem dX16_readsValue_1 : decode cX16_readsValue 1 = .ok (.lookupswitch 93 #[(33, 74), (43, 54), (64, 35)], 35) := by decide +kernel
theorem dX16_readsValue_36 : decode cX16_readsValue 36 = .ok (.aload_n 0, 1) := dk_42 (dk_at dksX16_readsValue_2 0 rfl rfl)
theorem dX16_readsValue_37 : decode cX16_readsValue 37 = .ok (.iconst 0, 1) := dk_3 (dk_at dksX16_readsValue_2 1 rfl rfl)
theorem dX16_readsValue_38 : decode cX16_readsValue 38 = .ok (.sipush 300, 3) := dk_17 1 44 (dk_at dksX16_readsValue_2 2 rfl rfl)
theorem dX16_readsValue_41 : decode cX16_readsValue 41 = .ok (.invokevirtual 108, 3) := dk_182 0 108 (dk_at dksX16_readsValue_2 5 rfl rfl)
theorem dX16_readsValue_44 : decode cX16_readsValue 44 = .ok (.istore_n 3, 1) := dk_62 (dk_at dksX16_readsValue_2 8 rfl rfl)
theorem dX16_readsValue_45 : decode cX16_readsValue 45 = .ok (.aload_n 1, 1) := dk_43 (dk_at dksX16_readsValue_2 9 rfl rfl)
theorem dX16_readsValue_46 : decode cX16_readsValue 46 = .ok (.aload_n 0, 1) := dk_42 (dk_at dksX16_readsValue_2 10 rfl rfl)
theorem dX16_readsValue_47 : decode cX16_readsValue 47 = .ok (.getfield 55, 3) := dk_180 0 55 (dk_at dksX16_readsValue_2 11 rfl rfl)
theorem dX16_readsValue_50 : decode cX16_readsValue 50 = .ok (.putfield 112, 3) := dk_181 0 112 (dk_at dksX16_readsValue_2 14 rfl rfl)
theorem dX16_readsValue_53 : decode cX16_readsValue 53 = .ok (.iload_n 3, 1) := dk_29 (dk_at dksX16_readsValue_2 17 rfl rfl)
theorem dX16_readsValue_54 : decode cX16_readsValue 54 = .ok (.ireturn, 1) := dk_172 (dk_at dksX16_readsValue_2 18 rfl rfl)
theorem dX16_readsValue_55 : decode cX16_readsValue 55 = .ok (.aload_n 0, 1) := dk_42 (dk_at dksX16_readsValue_2 19 rfl rfl)
theorem dX16_readsValue_56 : decode cX16_readsValue 56 = .ok (.iconst 0, 1) := dk_3 (dk_at dksX16_readsValue_2 20 rfl rfl)
theorem dX16_readsValue_57 : decode cX16_readsValue 57 = .ok (.bipush 99, 2) := dk_16 99 (dk_at dksX16_readsValue_2 21 rfl rfl)
theorem dX16_readsValue_59 : decode cX16_readsValue 59 = .ok (.invokevirtual 108, 3) := dk_182 0 108 (dk_at dksX16_readsValue_3 0 rfl rfl)
theorem dX16_readsValue_62 : decode cX16_readsValue 62 = .ok (.istore 4, 2) := dk_54 4 (dk_at dksX16_readsValue_3 3 rfl rfl)
theorem dX16_readsValue_64 : decode cX16_readsValue 64 = .ok (.aload_n 1, 1) := dk_43 (dk_at dksX16_readsValue_3 5 rfl rfl)
theorem dX16_readsValue_65 : decode cX16_readsValue 65 = .ok (.aload_n 0, 1) := dk_42 (dk_at dksX16_readsValue_3 6 rfl rfl)
theorem dX16_readsValue_66 : decode cX16_readsValue 66 = .ok (.getfield 55, 3) := dk_180 0 55 (dk_at dksX16_readsValue_3 7 rfl rfl)
theorem dX16_readsValue_69 : decode cX16_readsValue 69 = .ok (.putfield 115, 3) := dk_181 0 115 (dk_at dksX16_readsValue_3 10 rfl rfl)
theorem dX16_readsValue_72 : decode cX16_readsValue 72 = .ok (.iload 4, 2) := dk_21 4 (dk_at dksX16_readsValue_3 13 rfl rfl)
theorem dX16_readsValue_74 : decode cX16_readsValue 74 = .ok (.ireturn, 1) := dk_172 (dk_at dksX16_readsValue_3 15 rfl rfl)
theorem dX16_readsValue_75 : decode cX16_readsValue 75 = .ok (.aload_n 0, 1) := dk_42 (dk_at dksX16_readsValue_3 16 rfl rfl)
theorem dX16_readsValue_76 : decode cX16_readsValue 76 = .ok (.iconst 0, 1) := dk_3 (dk_at dksX16_readsValue_3 17 rfl rfl)
theorem dX16_readsValue_77 : decode cX16_readsValue 77 = .ok (.iconst 4, 1) := dk_7 (dk_at dksX16_readsValue_3 18 rfl rfl)
theorem dX16_readsValue_78 : decode cX16_readsValue 78 = .ok (.invokevirtual 108, 3) := dk_182 0 108 (dk_at dksX16_readsValue_3 19 rfl rfl)
theorem dX16_readsValue_81 : decode cX16_readsValue 81 = .ok (.istore 5, 2) := dk_54 5 (dk_at dksX16_readsValue_3 22 rfl rfl)
theorem dX16_readsValue_83 : decode cX16_readsValue 83 = .ok (.aload_n 1, 1) := dk_43 (dk_at dksX16_readsValue_4 0 rfl rfl)
theorem dX16_readsValue_84 : decode cX16_readsValue 84 = .ok (.aload_n 0, 1) := dk_42 (dk_at dksX16_readsValue_4 1 rfl rfl)
theorem dX16_readsValue_85 : decode cX16_readsValue 85 = .ok (.getfield 55, 3) := dk_180 0 55 (dk_at dksX16_readsValue_4 2 rfl rfl)
theorem dX16_readsValue_88 : decode cX16_readsValue 88 = .ok (.putfield 118, 3) := dk_181 0 118 (dk_at dksX16_readsValue_4 5 rfl rfl)
theorem dX16_readsValue_91 : decode cX16_readsValue 91 = .ok (.iload 5, 2) := dk_21 5 (dk_at dksX16_readsValue_4 8 rfl rfl)
theorem dX16_readsValue_93 : decode cX16_readsValue 93 = .ok (.ireturn, 1) := dk_172 (dk_at dksX16_readsValue_4 10 rfl rfl)
theorem dX16_readsValue_94 : decode cX16_readsValue 94 = .ok (.aload_n 1, 1) := dk_43 (dk_at dksX16_readsValue_4 11 rfl rfl)
theorem dX16_readsValue_95 : decode cX16_readsValue 95 = .ok (.iconst 1, 1) := dk_4 (dk_at dksX16_readsValue_4 12 rfl rfl)
theorem dX16_readsValue_96 : decode cX16_readsValue 96 = .ok (.putfield 121, 3) := dk_181 0 121 (dk_at dksX16_readsValue_4 13 rfl rfl)
theorem dX16_readsValue_99 : decode cX16_readsValue 99 = .ok (.iconst 1, 1) := dk_4 (dk_at dksX16_readsValue_4 16 rfl rfl)
theorem dX16_readsValue_100 : decode cX16_readsValue 100 = .ok (.ireturn, 1) := dk_172 (dk_at dksX16_readsValue_4 17 rfl rfl)
theorem q150 : (Jvm.Cond.initialized "AnimationController$Reader") ∈ lw_all := lw_g (lw_at lw_m1 43 rfl) rfl
theorem q614 : (Jvm.Cond.fieldLinkNest "AnimationController$Reader" (70 : Nat) "AnimationController" "parameters" "Ljava/util/ArrayList;" "AnimationController") ∈ lw_tbl := lw_at lw_m3 27 rfl
theorem q619 : (Jvm.Cond.fieldLinkNest "AnimationController$Reader" (58 : Nat) "AnimationController" "states" "Ljava/util/ArrayList;" "AnimationController") ∈ lw_tbl := lw_at lw_m3 32 rfl
theorem q623 : (Jvm.Cond.fieldLinkNest "AnimationController$Reader" (157 : Nat) "AnimationController" "transitions" "Ljava/util/ArrayList;" "AnimationController") ∈ lw_tbl := lw_at lw_m3 36 rfl
theorem q635 : (Jvm.Cond.fieldLinkNest "AnimationController$Reader" (26 : Nat) "AnimationController" "text" "Ljava/lang/StringBuilder;" "AnimationController") ∈ lw_tbl := lw_at lw_m3 48 rfl
theorem q962 : (Jvm.Cond.instantiable "AnimationController$Reader" (4 : Nat)) ∈ lw_all := lw_g (lw_at lw_m4 135 rfl) rfl
theorem q964 : (Jvm.Cond.instanceMethod ({ cls := "AnimationController$Reader", name := "<init>", desc := "(LAnimationController;)V" } : Jvm.MethodName)) ∈ lw_all := lw_g (lw_at lw_m4 137 rfl) rfl
theorem q965 : (Jvm.Cond.code ({ cls := "AnimationController$Reader", name := "<init>", desc := "(LAnimationController;)V" } : Jvm.MethodName) prog_13_method_1_code (2 : Nat) (Option.none : Option Jvm.ClassFile.FieldType)) ∈ lw_all := lw_g (lw_at lw_m4 138 rfl) rfl
theorem q966 : (Jvm.Cond.methodLink "AnimationController$Reader" (9 : Nat) ({ cls := "java/lang/Object", name := "<init>", desc := "()V" } : Jvm.MethodName)) ∈ lw_all := lw_g (lw_at lw_m4 139 rfl) rfl
theorem q967 : (Jvm.Cond.classLink "AnimationController$Reader" (15 : Nat) "java/util/ArrayList") ∈ lw_all := lw_g (lw_at lw_m4 140 rfl) rfl
theorem q968 : (Jvm.Cond.methodLink "AnimationController$Reader" (17 : Nat) ({ cls := "java/util/ArrayList", name := "<init>", desc := "()V" } : Jvm.MethodName)) ∈ lw_all := lw_g (lw_at lw_m4 141 rfl) rfl
theorem q973 : (Jvm.Cond.fieldLink "AnimationController$Reader" (18 : Nat) "AnimationController$Reader" "found" "Ljava/util/ArrayList;") ∈ lw_all := lw_g (lw_at lw_m4 146 rfl) rfl
theorem q975 : (Jvm.Cond.fieldLink "AnimationController$Reader" (22 : Nat) "AnimationController$Reader" "at" "I") ∈ lw_all := lw_g (lw_at lw_m4 148 rfl) rfl
theorem q977 : (Jvm.Cond.fieldLink "AnimationController$Reader" (55 : Nat) "AnimationController$Reader" "number" "I") ∈ lw_all := lw_g (lw_at lw_m4 150 rfl) rfl
theorem q978 : (Jvm.Cond.fieldLink "AnimationController$Reader" (3 : Nat) "AnimationController$Reader" "this$0" "LAnimationController;") ∈ lw_all := lw_g (lw_at lw_m4 151 rfl) rfl
theorem q979 : (Jvm.Cond.laysFinal "AnimationController$Reader" "AnimationController$Reader" "found" "Ljava/util/ArrayList;") ∈ lw_all := lw_g (lw_at lw_m4 152 rfl) rfl
theorem q980 : (Jvm.Cond.soleField "AnimationController$Reader" "found") ∈ lw_all := lw_g (lw_at lw_m4 153 rfl) rfl
theorem q981 : (Jvm.Cond.lays "AnimationController$Reader" "AnimationController$Reader" "at" "I") ∈ lw_all := lw_g (lw_at lw_m4 154 rfl) rfl
theorem q982 : (Jvm.Cond.soleField "AnimationController$Reader" "at") ∈ lw_all := lw_g (lw_at lw_m4 155 rfl) rfl
theorem q983 : (Jvm.Cond.lays "AnimationController$Reader" "AnimationController$Reader" "number" "I") ∈ lw_all := lw_g (lw_at lw_m4 156 rfl) rfl
theorem q984 : (Jvm.Cond.soleField "AnimationController$Reader" "number") ∈ lw_all := lw_g (lw_at lw_m4 157 rfl) rfl
theorem q985 : (Jvm.Cond.laysFinal "AnimationController$Reader" "AnimationController$Reader" "this$0" "LAnimationController;") ∈ lw_all := lw_g (lw_at lw_m4 158 rfl) rfl
theorem q986 : (Jvm.Cond.soleField "AnimationController$Reader" "this$0") ∈ lw_all := lw_g (lw_at lw_m4 159 rfl) rfl
theorem q987 : (Jvm.Cond.superclass "AnimationController$Reader" "java/lang/Object") ∈ lw_all := lw_g (lw_at lw_m4 160 rfl) rfl
theorem q989 : (Jvm.Cond.instanceMethod ({ cls := "AnimationController$Reader", name := "readsAll", desc := "()Z" } : Jvm.MethodName)) ∈ lw_all := lw_g (lw_at lw_m4 162 rfl) rfl
theorem q990 : (Jvm.Cond.selects "AnimationController$Reader" ({ cls := "AnimationController$Reader", name := "readsAll", desc := "()Z" } : Jvm.MethodName) ({ cls := "AnimationController$Reader", name := "readsAll", desc := "()Z" } : Jvm.MethodName)) ∈ lw_all := lw_g (lw_at lw_m4 163 rfl) rfl
theorem q991 : (Jvm.Cond.code ({ cls := "AnimationController$Reader", name := "readsAll", desc := "()Z" } : Jvm.MethodName) prog_13_method_12_code (2 : Nat) (Option.some Jvm.ClassFile.FieldType.boolean)) ∈ lw_all := lw_g (lw_at lw_m4 164 rfl) rfl
theorem q992 : (Jvm.Cond.methodLink "AnimationController$Reader" (171 : Nat) ({ cls := "AnimationController$Reader", name := "readsTransition", desc := "()Z" } : Jvm.MethodName)) ∈ lw_all := lw_g (lw_at lw_m4 165 rfl) rfl
theorem q993 : (Jvm.Cond.privateMethod ({ cls := "AnimationController$Reader", name := "readsTransition", desc := "()Z" } : Jvm.MethodName)) ∈ lw_tbl := lw_at lw_m4 166 rfl
theorem q994 : (Jvm.Cond.instanceMethod ({ cls := "AnimationController$Reader", name := "readsTransition", desc := "()Z" } : Jvm.MethodName)) ∈ lw_all := lw_g (lw_at lw_m4 167 rfl) rfl
theorem q995 : (Jvm.Cond.code ({ cls := "AnimationController$Reader", name := "readsTransition", desc := "()Z" } : Jvm.MethodName) prog_13_method_11_code (5 : Nat) (Option.some Jvm.ClassFile.FieldType.boolean)) ∈ lw_all := lw_g (lw_at lw_m4 168 rfl) rfl
theorem q996 : (Jvm.Cond.methodLink "AnimationController$Reader" (40 : Nat) ({ cls := "AnimationController$Reader", name := "here", desc := "()I" } : Jvm.MethodName)) ∈ lw_all := lw_g (lw_at lw_m4 169 rfl) rfl
theorem q997 : (Jvm.Cond.privateMethod ({ cls := "AnimationController$Reader", name := "here", desc := "()I" } : Jvm.MethodName)) ∈ lw_tbl := lw_at lw_m4 170 rfl
theorem q998 : (Jvm.Cond.instanceMethod ({ cls := "AnimationController$Reader", name := "here", desc := "()I" } : Jvm.MethodName)) ∈ lw_all := lw_g (lw_at lw_m4 171 rfl) rfl
theorem q999 : (Jvm.Cond.code ({ cls := "AnimationController$Reader", name := "here", desc := "()I" } : Jvm.MethodName) prog_13_method_2_code (1 : Nat) (Option.some Jvm.ClassFile.FieldType.int)) ∈ lw_all := lw_g (lw_at lw_m4 172 rfl) rfl
theorem q1000 : (Jvm.Cond.methodLink "AnimationController$Reader" (30 : Nat) ({ cls := "java/lang/StringBuilder", name := "length", desc := "()I" } : Jvm.MethodName)) ∈ lw_all := lw_g (lw_at lw_m4 173 rfl) rfl
theorem q1001 : (Jvm.Cond.methodLink "AnimationController$Reader" (36 : Nat) ({ cls := "java/lang/StringBuilder", name := "charAt", desc := "(I)C" } : Jvm.MethodName)) ∈ lw_all := lw_g (lw_at lw_m4 174 rfl) rfl
theorem q1014 : (Jvm.Cond.methodLink "AnimationController$Reader" (61 : Nat) ({ cls := "java/util/ArrayList", name := "size", desc := "()I" } : Jvm.MethodName)) ∈ lw_all := lw_g (lw_at lw_m4 187 rfl) rfl
theorem q1015 : (Jvm.Cond.methodLink "AnimationController$Reader" (75 : Nat) ({ cls := "AnimationController$Reader", name := "reads", desc := "(I)Z" } : Jvm.MethodName)) ∈ lw_all := lw_g (lw_at lw_m4 188 rfl) rfl
theorem q1016 : (Jvm.Cond.privateMethod ({ cls := "AnimationController$Reader", name := "reads", desc := "(I)Z" } : Jvm.MethodName)) ∈ lw_tbl := lw_at lw_m4 189 rfl
theorem q1017 : (Jvm.Cond.instanceMethod ({ cls := "AnimationController$Reader", name := "reads", desc := "(I)Z" } : Jvm.MethodName)) ∈ lw_all := lw_g (lw_at lw_m4 190 rfl) rfl
theorem q1018 : (Jvm.Cond.code ({ cls := "AnimationController$Reader", name := "reads", desc := "(I)Z" } : Jvm.MethodName) prog_13_method_3_code (3 : Nat) (Option.some Jvm.ClassFile.FieldType.boolean)) ∈ lw_all := lw_g (lw_at lw_m4 191 rfl) rfl
theorem q1019 : (Jvm.Cond.methodLink "AnimationController$Reader" (160 : Nat) ({ cls := "AnimationController$Reader", name := "readsState", desc := "()LAnimationController$State;" } : Jvm.MethodName)) ∈ lw_all := lw_g (lw_at lw_m4 192 rfl) rfl
theorem q1020 : (Jvm.Cond.privateMethod ({ cls := "AnimationController$Reader", name := "readsState", desc := "()LAnimationController$State;" } : Jvm.MethodName)) ∈ lw_tbl := lw_at lw_m4 193 rfl
theorem q1021 : (Jvm.Cond.instanceMethod ({ cls := "AnimationController$Reader", name := "readsState", desc := "()LAnimationController$State;" } : Jvm.MethodName)) ∈ lw_all := lw_g (lw_at lw_m4 194 rfl) rfl
theorem q1022 : (Jvm.Cond.code ({ cls := "AnimationController$Reader", name := "readsState", desc := "()LAnimationController$State;" } : Jvm.MethodName) prog_13_method_6_code (2 : Nat) (Option.some (Jvm.ClassFile.FieldType.object "AnimationController$State"))) ∈ lw_all := lw_g (lw_at lw_m4 195 rfl) rfl
theorem q1023 : (Jvm.Cond.methodLinkNest "AnimationController$Reader" (47 : Nat) ({ cls := "AnimationController", name := "in", desc := "(JJJ)Z" } : Jvm.MethodName) "AnimationController") ∈ lw_tbl := lw_at lw_m4 196 rfl
theorem q1026 : (Jvm.Cond.methodLink "AnimationController$Reader" (64 : Nat) ({ cls := "java/util/ArrayList", name := "get", desc := "(I)Ljava/lang/Object;" } : Jvm.MethodName)) ∈ lw_all := lw_g (lw_at lw_m4 199 rfl) rfl
theorem q1027 : (Jvm.Cond.classLink "AnimationController$Reader" (68 : Nat) "AnimationController$State") ∈ lw_all := lw_g (lw_at lw_m4 200 rfl) rfl
theorem q1028 : (Jvm.Cond.methodLink "AnimationController$Reader" (108 : Nat) ({ cls := "AnimationController$Reader", name := "readsNumber", desc := "(II)Z" } : Jvm.MethodName)) ∈ lw_all := lw_g (lw_at lw_m4 201 rfl) rfl
theorem q1029 : (Jvm.Cond.privateMethod ({ cls := "AnimationController$Reader", name := "readsNumber", desc := "(II)Z" } : Jvm.MethodName)) ∈ lw_tbl := lw_at lw_m4 202 rfl
theorem q1030 : (Jvm.Cond.instanceMethod ({ cls := "AnimationController$Reader", name := "readsNumber", desc := "(II)Z" } : Jvm.MethodName)) ∈ lw_all := lw_g (lw_at lw_m4 203 rfl) rfl
theorem q1031 : (Jvm.Cond.code ({ cls := "AnimationController$Reader", name := "readsNumber", desc := "(II)Z" } : Jvm.MethodName) prog_13_method_5_code (5 : Nat) (Option.some Jvm.ClassFile.FieldType.boolean)) ∈ lw_all := lw_g (lw_at lw_m4 204 rfl) rfl
theorem q1032 : (Jvm.Cond.methodLink "AnimationController$Reader" (51 : Nat) ({ cls := "AnimationController$Reader", name := "isDigitAt", desc := "(I)Z" } : Jvm.MethodName)) ∈ lw_all := lw_g (lw_at lw_m4 205 rfl) rfl
theorem q1033 : (Jvm.Cond.privateMethod ({ cls := "AnimationController$Reader", name := "isDigitAt", desc := "(I)Z" } : Jvm.MethodName)) ∈ lw_tbl := lw_at lw_m4 206 rfl
theorem q1034 : (Jvm.Cond.instanceMethod ({ cls := "AnimationController$Reader", name := "isDigitAt", desc := "(I)Z" } : Jvm.MethodName)) ∈ lw_all := lw_g (lw_at lw_m4 207 rfl) rfl
theorem q1035 : (Jvm.Cond.code ({ cls := "AnimationController$Reader", name := "isDigitAt", desc := "(I)Z" } : Jvm.MethodName) prog_13_method_4_code (2 : Nat) (Option.some Jvm.ClassFile.FieldType.boolean)) ∈ lw_all := lw_g (lw_at lw_m4 208 rfl) rfl
theorem q1036 : (Jvm.Cond.constantLong "AnimationController$Reader" (43 : Nat) (48 : Int64)) ∈ lw_all := lw_g (lw_at lw_m4 209 rfl) rfl
theorem q1037 : (Jvm.Cond.constantLong "AnimationController$Reader" (45 : Nat) (57 : Int64)) ∈ lw_all := lw_g (lw_at lw_m4 210 rfl) rfl
theorem q1038 : (Jvm.Cond.classLink "AnimationController$Reader" (95 : Nat) "AnimationController$Transition") ∈ lw_all := lw_g (lw_at lw_m4 211 rfl) rfl
theorem q1040 : (Jvm.Cond.methodLink "AnimationController$Reader" (164 : Nat) ({ cls := "AnimationController$Transition", name := "<init>", desc := "(LAnimationController$State;LAnimationController$State;I)V" } : Jvm.MethodName)) ∈ lw_all := lw_g (lw_at lw_m4 213 rfl) rfl
theorem q1048 : (Jvm.Cond.fieldLinkNest "AnimationController$Reader" (143 : Nat) "AnimationController$Transition" "from" "LAnimationController$State;" "AnimationController") ∈ lw_tbl := lw_at lw_m4 221 rfl
theorem q1056 : (Jvm.Cond.fieldLinkNest "AnimationController$Reader" (112 : Nat) "AnimationController$Transition" "exit" "I" "AnimationController") ∈ lw_tbl := lw_at lw_m4 229 rfl
theorem q1059 : (Jvm.Cond.fieldLinkNest "AnimationController$Reader" (115 : Nat) "AnimationController$Transition" "start" "I" "AnimationController") ∈ lw_tbl := lw_at lw_m4 232 rfl
theorem q1063 : (Jvm.Cond.fieldLinkNest "AnimationController$Reader" (118 : Nat) "AnimationController$Transition" "mode" "I" "AnimationController") ∈ lw_tbl := lw_at lw_m4 236 rfl
theorem q1066 : (Jvm.Cond.fieldLinkNest "AnimationController$Reader" (121 : Nat) "AnimationController$Transition" "isOrdered" "Z" "AnimationController") ∈ lw_tbl := lw_at lw_m4 239 rfl
theorem q1070 : (Jvm.Cond.fieldLinkNest "AnimationController$Reader" (130 : Nat) "AnimationController$Transition" "many" "I" "AnimationController") ∈ lw_tbl := lw_at lw_m5 3 rfl
theorem q1091 : (Jvm.Cond.methodLink "AnimationController$Reader" (167 : Nat) ({ cls := "java/util/ArrayList", name := "add", desc := "(Ljava/lang/Object;)Z" } : Jvm.MethodName)) ∈ lw_all := lw_g (lw_at lw_m5 24 rfl) rfl
theorem q1125 : (Jvm.Cond.selects "AnimationController$Reader" ({ cls := "java/lang/Object", name := "getClass", desc := "()Ljava/lang/Class;" } : Jvm.MethodName) ({ cls := "java/lang/Object", name := "getClass", desc := "()Ljava/lang/Class;" } : Jvm.MethodName)) ∈ lw_all := lw_g (lw_at lw_m5 58 rfl) rfl
theorem q1156 : (Jvm.Cond.methodLink "AnimationController$Reader" (168 : Nat) ({ cls := "AnimationController$Reader", name := "readsAttributes", desc := "(LAnimationController$Transition;)Z" } : Jvm.MethodName)) ∈ lw_all := lw_g (lw_at lw_m5 89 rfl) rfl
theorem q1157 : (Jvm.Cond.privateMethod ({ cls := "AnimationController$Reader", name := "readsAttributes", desc := "(LAnimationController$Transition;)Z" } : Jvm.MethodName)) ∈ lw_tbl := lw_at lw_m5 90 rfl
theorem q1158 : (Jvm.Cond.instanceMethod ({ cls := "AnimationController$Reader", name := "readsAttributes", desc := "(LAnimationController$Transition;)Z" } : Jvm.MethodName)) ∈ lw_all := lw_g (lw_at lw_m5 91 rfl) rfl
theorem q1159 : (Jvm.Cond.code ({ cls := "AnimationController$Reader", name := "readsAttributes", desc := "(LAnimationController$Transition;)Z" } : Jvm.MethodName) prog_13_method_10_code (5 : Nat) (Option.some Jvm.ClassFile.FieldType.boolean)) ∈ lw_all := lw_g (lw_at lw_m5 92 rfl) rfl
theorem q1160 : (Jvm.Cond.classLink "AnimationController$Reader" (125 : Nat) "java/util/HashSet") ∈ lw_all := lw_g (lw_at lw_m5 93 rfl) rfl
theorem q1162 : (Jvm.Cond.methodLink "AnimationController$Reader" (127 : Nat) ({ cls := "java/util/HashSet", name := "<init>", desc := "()V" } : Jvm.MethodName)) ∈ lw_all := lw_g (lw_at lw_m5 95 rfl) rfl
theorem q1185 : (Jvm.Cond.stringRef "AnimationController$Reader" (128 : Nat) "@+!o?") ∈ lw_tbl := lw_at lw_m5 118 rfl
theorem q1186 : (Jvm.Cond.methodLink "AnimationController$Reader" (102 : Nat) ({ cls := "java/lang/String", name := "indexOf", desc := "(I)I" } : Jvm.MethodName)) ∈ lw_all := lw_g (lw_at lw_m5 119 rfl) rfl
theorem q1236 : (Jvm.Cond.methodLink "AnimationController$Reader" (133 : Nat) ({ cls := "java/lang/Character", name := "valueOf", desc := "(C)Ljava/lang/Character;" } : Jvm.MethodName)) ∈ lw_all := lw_g (lw_at lw_m5 169 rfl) rfl
theorem q1251 : (Jvm.Cond.methodLink "AnimationController$Reader" (139 : Nat) ({ cls := "java/util/HashSet", name := "contains", desc := "(Ljava/lang/Object;)Z" } : Jvm.MethodName)) ∈ lw_all := lw_g (lw_at lw_m5 184 rfl) rfl
theorem q1285 : (Jvm.Cond.selects "AnimationController$Reader" ({ cls := "java/lang/Object", name := "hashCode", desc := "()I" } : Jvm.MethodName) ({ cls := "java/lang/Object", name := "hashCode", desc := "()I" } : Jvm.MethodName)) ∈ lw_all := lw_g (lw_at lw_m5 218 rfl) rfl
theorem q1382 : (Jvm.Cond.selects "AnimationController$Reader" ({ cls := "java/lang/Object", name := "equals", desc := "(Ljava/lang/Object;)Z" } : Jvm.MethodName) ({ cls := "java/lang/Object", name := "equals", desc := "(Ljava/lang/Object;)Z" } : Jvm.MethodName)) ∈ lw_all := lw_g (lw_at lw_m6 75 rfl) rfl
theorem q1645 : (Jvm.Cond.methodLink "AnimationController$Reader" (147 : Nat) ({ cls := "java/util/HashSet", name := "add", desc := "(Ljava/lang/Object;)Z" } : Jvm.MethodName)) ∈ lw_all := lw_g (lw_at lw_m7 98 rfl) rfl
theorem q1856 : (Jvm.Cond.methodLink "AnimationController$Reader" (149 : Nat) ({ cls := "AnimationController$Reader", name := "readsCondition", desc := "(LAnimationController$Transition;)Z" } : Jvm.MethodName)) ∈ lw_all := lw_g (lw_at lw_m8 69 rfl) rfl
theorem q1857 : (Jvm.Cond.privateMethod ({ cls := "AnimationController$Reader", name := "readsCondition", desc := "(LAnimationController$Transition;)Z" } : Jvm.MethodName)) ∈ lw_tbl := lw_at lw_m8 70 rfl
theorem q1858 : (Jvm.Cond.instanceMethod ({ cls := "AnimationController$Reader", name := "readsCondition", desc := "(LAnimationController$Transition;)Z" } : Jvm.MethodName)) ∈ lw_all := lw_g (lw_at lw_m8 71 rfl) rfl
theorem q1859 : (Jvm.Cond.code ({ cls := "AnimationController$Reader", name := "readsCondition", desc := "(LAnimationController$Transition;)Z" } : Jvm.MethodName) prog_13_method_8_code (6 : Nat) (Option.some Jvm.ClassFile.FieldType.boolean)) ∈ lw_all := lw_g (lw_at lw_m8 72 rfl) rfl
theorem q1860 : (Jvm.Cond.methodLink "AnimationController$Reader" (78 : Nat) ({ cls := "AnimationController$Reader", name := "readsParameter", desc := "()LAnimationController$Parameter;" } : Jvm.MethodName)) ∈ lw_all := lw_g (lw_at lw_m8 73 rfl) rfl
theorem q1861 : (Jvm.Cond.privateMethod ({ cls := "AnimationController$Reader", name := "readsParameter", desc := "()LAnimationController$Parameter;" } : Jvm.MethodName)) ∈ lw_tbl := lw_at lw_m8 74 rfl
theorem q1862 : (Jvm.Cond.instanceMethod ({ cls := "AnimationController$Reader", name := "readsParameter", desc := "()LAnimationController$Parameter;" } : Jvm.MethodName)) ∈ lw_all := lw_g (lw_at lw_m8 75 rfl) rfl
theorem q1863 : (Jvm.Cond.code ({ cls := "AnimationController$Reader", name := "readsParameter", desc := "()LAnimationController$Parameter;" } : Jvm.MethodName) prog_13_method_7_code (2 : Nat) (Option.some (Jvm.ClassFile.FieldType.object "AnimationController$Parameter"))) ∈ lw_all := lw_g (lw_at lw_m8 76 rfl) rfl
theorem q1864 : (Jvm.Cond.classLink "AnimationController$Reader" (73 : Nat) "AnimationController$Parameter") ∈ lw_all := lw_g (lw_at lw_m8 77 rfl) rfl
theorem q1865 : (Jvm.Cond.classLink "AnimationController$Reader" (85 : Nat) "AnimationController$Condition") ∈ lw_all := lw_g (lw_at lw_m8 78 rfl) rfl
theorem q1867 : (Jvm.Cond.methodLinkNest "AnimationController$Reader" (87 : Nat) ({ cls := "AnimationController", name := "testFor", desc := "(II)LAnimationController$Test;" } : Jvm.MethodName) "AnimationController") ∈ lw_tbl := lw_at lw_m8 80 rfl
theorem q1878 : (Jvm.Cond.methodLink "AnimationController$Reader" (91 : Nat) ({ cls := "AnimationController$Condition", name := "<init>", desc := "(LAnimationController$Parameter;LAnimationController$Test;)V" } : Jvm.MethodName)) ∈ lw_all := lw_g (lw_at lw_m8 91 rfl) rfl
theorem q1890 : (Jvm.Cond.methodLink "AnimationController$Reader" (94 : Nat) ({ cls := "AnimationController$Transition", name := "add", desc := "(LAnimationController$Condition;)V" } : Jvm.MethodName)) ∈ lw_all := lw_g (lw_at lw_m8 103 rfl) rfl
theorem q1894 : (Jvm.Cond.stringRef "AnimationController$Reader" (100 : Nat) "><=#") ∈ lw_tbl := lw_at lw_m8 107 rfl
theorem q1895 : (Jvm.Cond.methodLink "AnimationController$Reader" (153 : Nat) ({ cls := "AnimationController$Reader", name := "readsValue", desc := "(LAnimationController$Transition;C)Z" } : Jvm.MethodName)) ∈ lw_all := lw_g (lw_at lw_m8 108 rfl) rfl
theorem q1896 : (Jvm.Cond.privateMethod ({ cls := "AnimationController$Reader", name := "readsValue", desc := "(LAnimationController$Transition;C)Z" } : Jvm.MethodName)) ∈ lw_tbl := lw_at lw_m8 109 rfl
theorem q1897 : (Jvm.Cond.instanceMethod ({ cls := "AnimationController$Reader", name := "readsValue", desc := "(LAnimationController$Transition;C)Z" } : Jvm.MethodName)) ∈ lw_all := lw_g (lw_at lw_m8 110 rfl) rfl
theorem q1898 : (Jvm.Cond.code ({ cls := "AnimationController$Reader", name := "readsValue", desc := "(LAnimationController$Transition;C)Z" } : Jvm.MethodName) prog_13_method_9_code (6 : Nat) (Option.some Jvm.ClassFile.FieldType.boolean)) ∈ lw_all := lw_g (lw_at lw_m8 111 rfl) rfl
theorem q1949 : (Jvm.Cond.fieldLinkNest "AnimationController$Reader" (82 : Nat) "AnimationController$Parameter" "kind" "I" "AnimationController") ∈ lw_tbl := lw_at lw_m8 162 rfl
theorem q3314 : (Jvm.Cond.castable "AnimationController$Reader" "java/lang/Object") ∈ lw_tbl := lw_at lw_m14 87 rfl
theorem in_X16 : ∀ w ∈ wsX160, w ∈ lw_all := lw_in wsX160 [979, 981, 983, 985] (by decide +kernel) (by decide +kernel)

/-! AnimationController$Image -/
set_option maxRecDepth 100000
def RX17 : String := "AnimationController$Image"
def TX17 : u_T := fun k => match k with
  | 0 => ("AnimationController$Image", "machine", "LAnimationController$Machine;", true)
  | _ => ("AnimationController$Image", "values", "[I", true)
def tyX17 : Nat → FieldType := fun k => match k with
  | 0 => .object "AnimationController$Machine"
  | _ => .array .int
abbrev wsX170 : List Cond := u_ws RX17 TX17 2
theorem nmX17 : ∀ a, a < 2 → ∀ b, b < 2 → a ≠ b → (TX17 a).2.1 ≠ (TX17 b).2.1 := by decide +kernel
theorem tyX17_ok : ∀ k, k < 2 → parseFieldDescriptor (TX17 k).2.2.1 = some (tyX17 k) := by decide +kernel
abbrev cX17_init : ByteArray := prog_7_method_1_code
def yX17_init : MethodName := ⟨RX17, "<init>", "(LAnimationController$Machine;[I)V"⟩
def dkwX17_init_0 : List UInt8 := [42, 183, 0, 1, 42, 43, 181, 0, 7, 42, 44, 181, 0, 13, 177]
abbrev dktX17_init_0 : List UInt8 := dkwX17_init_0 ++ []
theorem dksX17_init_0 : cX17_init.data.toList.drop 0 = dktX17_init_0 := by decide +kernel
theorem dX17_init_0 : decode cX17_init 0 = .ok (.aload_n 0, 1) := dk_42 (dk_at dksX17_init_0 0 rfl rfl)
theorem dX17_init_1 : decode cX17_init 1 = .ok (.invokespecial 1, 3) := dk_183 0 1 (dk_at dksX17_init_0 1 rfl rfl)
theorem dX17_init_4 : decode cX17_init 4 = .ok (.aload_n 0, 1) := dk_42 (dk_at dksX17_init_0 4 rfl rfl)
theorem dX17_init_5 : decode cX17_init 5 = .ok (.aload_n 1, 1) := dk_43 (dk_at dksX17_init_0 5 rfl rfl)
theorem dX17_init_6 : decode cX17_init 6 = .ok (.putfield 7, 3) := dk_181 0 7 (dk_at dksX17_init_0 6 rfl rfl)
theorem dX17_init_9 : decode cX17_init 9 = .ok (.aload_n 0, 1) := dk_42 (dk_at dksX17_init_0 9 rfl rfl)
theorem dX17_init_10 : decode cX17_init 10 = .ok (.aload_n 2, 1) := dk_44 (dk_at dksX17_init_0 10 rfl rfl)
theorem dX17_init_11 : decode cX17_init 11 = .ok (.putfield 13, 3) := dk_181 0 13 (dk_at dksX17_init_0 11 rfl rfl)
theorem dX17_init_14 : decode cX17_init 14 = .ok (.return_, 1) := dk_177 (dk_at dksX17_init_0 14 rfl rfl)
theorem q163 : (Jvm.Cond.initialized "AnimationController$Image") ∈ lw_all := lw_g (lw_at lw_m1 56 rfl) rfl
theorem q1120 : (Jvm.Cond.selects "AnimationController$Image" ({ cls := "java/lang/Object", name := "getClass", desc := "()Ljava/lang/Class;" } : Jvm.MethodName) ({ cls := "java/lang/Object", name := "getClass", desc := "()Ljava/lang/Class;" } : Jvm.MethodName)) ∈ lw_all := lw_g (lw_at lw_m5 53 rfl) rfl
theorem q1280 : (Jvm.Cond.selects "AnimationController$Image" ({ cls := "java/lang/Object", name := "hashCode", desc := "()I" } : Jvm.MethodName) ({ cls := "java/lang/Object", name := "hashCode", desc := "()I" } : Jvm.MethodName)) ∈ lw_all := lw_g (lw_at lw_m5 213 rfl) rfl
theorem q1377 : (Jvm.Cond.selects "AnimationController$Image" ({ cls := "java/lang/Object", name := "equals", desc := "(Ljava/lang/Object;)Z" } : Jvm.MethodName) ({ cls := "java/lang/Object", name := "equals", desc := "(Ljava/lang/Object;)Z" } : Jvm.MethodName)) ∈ lw_all := lw_g (lw_at lw_m6 70 rfl) rfl
theorem q2688 : (Jvm.Cond.instantiable "AnimationController$Image" (2 : Nat)) ∈ lw_all := lw_g (lw_at lw_m11 181 rfl) rfl
theorem q2690 : (Jvm.Cond.instanceMethod ({ cls := "AnimationController$Image", name := "<init>", desc := "(LAnimationController$Machine;[I)V" } : Jvm.MethodName)) ∈ lw_all := lw_g (lw_at lw_m11 183 rfl) rfl
theorem q2691 : (Jvm.Cond.code ({ cls := "AnimationController$Image", name := "<init>", desc := "(LAnimationController$Machine;[I)V" } : Jvm.MethodName) prog_7_method_1_code (3 : Nat) (Option.none : Option Jvm.ClassFile.FieldType)) ∈ lw_all := lw_g (lw_at lw_m11 184 rfl) rfl
theorem q2692 : (Jvm.Cond.methodLink "AnimationController$Image" (1 : Nat) ({ cls := "java/lang/Object", name := "<init>", desc := "()V" } : Jvm.MethodName)) ∈ lw_all := lw_g (lw_at lw_m11 185 rfl) rfl
theorem q2693 : (Jvm.Cond.fieldLink "AnimationController$Image" (7 : Nat) "AnimationController$Image" "machine" "LAnimationController$Machine;") ∈ lw_all := lw_g (lw_at lw_m11 186 rfl) rfl
theorem q2695 : (Jvm.Cond.fieldLink "AnimationController$Image" (13 : Nat) "AnimationController$Image" "values" "[I") ∈ lw_all := lw_g (lw_at lw_m11 188 rfl) rfl
theorem q2697 : (Jvm.Cond.laysFinal "AnimationController$Image" "AnimationController$Image" "machine" "LAnimationController$Machine;") ∈ lw_all := lw_g (lw_at lw_m11 190 rfl) rfl
theorem q2698 : (Jvm.Cond.soleField "AnimationController$Image" "machine") ∈ lw_all := lw_g (lw_at lw_m11 191 rfl) rfl
theorem q2699 : (Jvm.Cond.laysFinal "AnimationController$Image" "AnimationController$Image" "values" "[I") ∈ lw_all := lw_g (lw_at lw_m11 192 rfl) rfl
theorem q2700 : (Jvm.Cond.soleField "AnimationController$Image" "values") ∈ lw_all := lw_g (lw_at lw_m11 193 rfl) rfl
theorem q2701 : (Jvm.Cond.superclass "AnimationController$Image" "java/lang/Object") ∈ lw_all := lw_g (lw_at lw_m11 194 rfl) rfl
theorem q3324 : (Jvm.Cond.castable "AnimationController$Image" "java/lang/Object") ∈ lw_tbl := lw_at lw_m14 97 rfl
theorem in_X17 : ∀ w ∈ wsX170, w ∈ lw_all := lw_in wsX170 [2697, 2699] (by decide +kernel) (by decide +kernel)

/-! AnimationController$Pose -/
set_option maxRecDepth 100000
def RX2 : String := "AnimationController$Pose"
def TX2 : u_T := fun k => match k with
  | 0 => ("AnimationController$Pose", "clipNumbers", "[I", true)
  | 1 => ("AnimationController$Pose", "times", "[I", true)
  | 2 => ("AnimationController$Pose", "weights", "[I", true)
  | _ => ("AnimationController$Pose", "many", "I", false)
def tyX2 : Nat → FieldType := fun k => match k with
  | 0 => .array .int
  | 1 => .array .int
  | 2 => .array .int
  | _ => .int
abbrev wsX20 : List Cond := u_ws RX2 TX2 4
theorem nmX2 : ∀ a, a < 4 → ∀ b, b < 4 → a ≠ b → (TX2 a).2.1 ≠ (TX2 b).2.1 := by decide +kernel
theorem tyX2_ok : ∀ k, k < 4 → parseFieldDescriptor (TX2 k).2.2.1 = some (tyX2 k) := by decide +kernel
abbrev cX2_init : ByteArray := prog_12_method_1_code
def yX2_init : MethodName := ⟨RX2, "<init>", "()V"⟩
def dkwX2_init_1 : List UInt8 := [188, 10, 181, 0, 16, 177]
abbrev dktX2_init_1 : List UInt8 := dkwX2_init_1 ++ []
def dkwX2_init_0 : List UInt8 := [42, 183, 0, 1, 42, 16, 40, 188, 10, 181, 0, 9, 42, 16, 40, 188, 10, 181, 0, 13, 42, 16, 40]
abbrev dktX2_init_0 : List UInt8 := dkwX2_init_0 ++ dktX2_init_1
theorem dksX2_init_0 : cX2_init.data.toList.drop 0 = dktX2_init_0 := by decide +kernel
theorem dksX2_init_1 : cX2_init.data.toList.drop 23 = dktX2_init_1 := dk_seg dksX2_init_0 23 rfl rfl
theorem dX2_init_0 : decode cX2_init 0 = .ok (.aload_n 0, 1) := dk_42 (dk_at dksX2_init_0 0 rfl rfl)
theorem dX2_init_1 : decode cX2_init 1 = .ok (.invokespecial 1, 3) := dk_183 0 1 (dk_at dksX2_init_0 1 rfl rfl)
theorem dX2_init_4 : decode cX2_init 4 = .ok (.aload_n 0, 1) := dk_42 (dk_at dksX2_init_0 4 rfl rfl)
theorem dX2_init_5 : decode cX2_init 5 = .ok (.bipush 40, 2) := dk_16 40 (dk_at dksX2_init_0 5 rfl rfl)
theorem dX2_init_7 : decode cX2_init 7 = .ok (.newarray .int, 2) := dk_188_10 (dk_at dksX2_init_0 7 rfl rfl)
theorem dX2_init_9 : decode cX2_init 9 = .ok (.putfield 9, 3) := dk_181 0 9 (dk_at dksX2_init_0 9 rfl rfl)
theorem dX2_init_12 : decode cX2_init 12 = .ok (.aload_n 0, 1) := dk_42 (dk_at dksX2_init_0 12 rfl rfl)
theorem dX2_init_13 : decode cX2_init 13 = .ok (.bipush 40, 2) := dk_16 40 (dk_at dksX2_init_0 13 rfl rfl)
theorem dX2_init_15 : decode cX2_init 15 = .ok (.newarray .int, 2) := dk_188_10 (dk_at dksX2_init_0 15 rfl rfl)
theorem dX2_init_17 : decode cX2_init 17 = .ok (.putfield 13, 3) := dk_181 0 13 (dk_at dksX2_init_0 17 rfl rfl)
theorem dX2_init_20 : decode cX2_init 20 = .ok (.aload_n 0, 1) := dk_42 (dk_at dksX2_init_0 20 rfl rfl)
theorem dX2_init_21 : decode cX2_init 21 = .ok (.bipush 40, 2) := dk_16 40 (dk_at dksX2_init_0 21 rfl rfl)
theorem dX2_init_23 : decode cX2_init 23 = .ok (.newarray .int, 2) := dk_188_10 (dk_at dksX2_init_1 0 rfl rfl)
theorem dX2_init_25 : decode cX2_init 25 = .ok (.putfield 16, 3) := dk_181 0 16 (dk_at dksX2_init_1 2 rfl rfl)
theorem dX2_init_28 : decode cX2_init 28 = .ok (.return_, 1) := dk_177 (dk_at dksX2_init_1 5 rfl rfl)
abbrev cX2_add : ByteArray := prog_12_method_3_code
def yX2_add : MethodName := ⟨RX2, "add", "(III)V"⟩
def dkwX2_add_6 : List UInt8 := [28, 79, 42, 180, 0, 16, 21, 4, 29, 79, 42, 89, 180, 0, 25, 4, 96, 181, 0, 25, 177]
abbrev dktX2_add_6 : List UInt8 := dkwX2_add_6 ++ []
def dkwX2_add_5 : List UInt8 := [4, 100, 46, 79, 132, 5, 255, 167, 255, 198, 42, 180, 0, 9, 21, 4, 27, 79, 42, 180, 0, 13, 21, 4]
abbrev dktX2_add_5 : List UInt8 := dkwX2_add_5 ++ dktX2_add_6
def dkwX2_add_4 : List UInt8 := [21, 5, 42, 180, 0, 13, 21, 5, 4, 100, 46, 79, 42, 180, 0, 16, 21, 5, 42, 180, 0, 16, 21, 5]
abbrev dktX2_add_4 : List UInt8 := dkwX2_add_4 ++ dktX2_add_5
def dkwX2_add_3 : List UInt8 := [164, 0, 57, 42, 180, 0, 9, 21, 5, 42, 180, 0, 9, 21, 5, 4, 100, 46, 79, 42, 180, 0, 13]
abbrev dktX2_add_3 : List UInt8 := dkwX2_add_3 ++ dktX2_add_4
def dkwX2_add_2 : List UInt8 := [42, 180, 0, 16, 21, 4, 4, 100, 92, 46, 29, 96, 79, 177, 42, 180, 0, 25, 54, 5, 21, 5, 21, 4]
abbrev dktX2_add_2 : List UInt8 := dkwX2_add_2 ++ dktX2_add_3
def dkwX2_add_1 : List UInt8 := [132, 4, 255, 167, 255, 235, 21, 4, 158, 0, 30, 42, 21, 4, 4, 100, 27, 28, 182, 0, 29, 154, 0, 17]
abbrev dktX2_add_1 : List UInt8 := dkwX2_add_1 ++ dktX2_add_2
def dkwX2_add_0 : List UInt8 := [42, 180, 0, 25, 54, 4, 21, 4, 158, 0, 22, 42, 21, 4, 4, 100, 27, 28, 182, 0, 29, 158, 0, 9]
abbrev dktX2_add_0 : List UInt8 := dkwX2_add_0 ++ dktX2_add_1
theorem dksX2_add_0 : cX2_add.data.toList.drop 0 = dktX2_add_0 := by decide +kernel
theorem dksX2_add_1 : cX2_add.data.toList.drop 24 = dktX2_add_1 := dk_seg dksX2_add_0 24 rfl rfl
theorem dksX2_add_2 : cX2_add.data.toList.drop 48 = dktX2_add_2 := dk_seg dksX2_add_1 24 rfl rfl
theorem dksX2_add_3 : cX2_add.data.toList.drop 72 = dktX2_add_3 := dk_seg dksX2_add_2 24 rfl rfl
theorem dksX2_add_4 : cX2_add.data.toList.drop 95 = dktX2_add_4 := dk_seg dksX2_add_3 23 rfl rfl
theorem dksX2_add_5 : cX2_add.data.toList.drop 119 = dktX2_add_5 := dk_seg dksX2_add_4 24 rfl rfl
theorem dksX2_add_6 : cX2_add.data.toList.drop 143 = dktX2_add_6 := dk_seg dksX2_add_5 24 rfl rfl
theorem dX2_add_0 : decode cX2_add 0 = .ok (.aload_n 0, 1) := dk_42 (dk_at dksX2_add_0 0 rfl rfl)
theorem dX2_add_1 : decode cX2_add 1 = .ok (.getfield 25, 3) := dk_180 0 25 (dk_at dksX2_add_0 1 rfl rfl)
theorem dX2_add_4 : decode cX2_add 4 = .ok (.istore 4, 2) := dk_54 4 (dk_at dksX2_add_0 4 rfl rfl)
theorem dX2_add_6 : decode cX2_add 6 = .ok (.iload 4, 2) := dk_21 4 (dk_at dksX2_add_0 6 rfl rfl)
theorem dX2_add_8 : decode cX2_add 8 = .ok (.ifCond .le 22, 3) := dk_158 0 22 (dk_at dksX2_add_0 8 rfl rfl)
theorem dX2_add_11 : decode cX2_add 11 = .ok (.aload_n 0, 1) := dk_42 (dk_at dksX2_add_0 11 rfl rfl)
theorem dX2_add_12 : decode cX2_add 12 = .ok (.iload 4, 2) := dk_21 4 (dk_at dksX2_add_0 12 rfl rfl)
theorem dX2_add_14 : decode cX2_add 14 = .ok (.iconst 1, 1) := dk_4 (dk_at dksX2_add_0 14 rfl rfl)
theorem dX2_add_15 : decode cX2_add 15 = .ok (.isub, 1) := dk_100 (dk_at dksX2_add_0 15 rfl rfl)
theorem dX2_add_16 : decode cX2_add 16 = .ok (.iload_n 1, 1) := dk_27 (dk_at dksX2_add_0 16 rfl rfl)
theorem dX2_add_17 : decode cX2_add 17 = .ok (.iload_n 2, 1) := dk_28 (dk_at dksX2_add_0 17 rfl rfl)
theorem dX2_add_18 : decode cX2_add 18 = .ok (.invokevirtual 29, 3) := dk_182 0 29 (dk_at dksX2_add_0 18 rfl rfl)
theorem dX2_add_21 : decode cX2_add 21 = .ok (.ifCond .le 9, 3) := dk_158 0 9 (dk_at dksX2_add_0 21 rfl rfl)
theorem dX2_add_24 : decode cX2_add 24 = .ok (.iinc 4 (-1), 3) := dk_132 4 255 (dk_at dksX2_add_1 0 rfl rfl)
theorem dX2_add_27 : decode cX2_add 27 = .ok (.goto (-21), 3) := dk_167 255 235 (dk_at dksX2_add_1 3 rfl rfl)
theorem dX2_add_30 : decode cX2_add 30 = .ok (.iload 4, 2) := dk_21 4 (dk_at dksX2_add_1 6 rfl rfl)
theorem dX2_add_32 : decode cX2_add 32 = .ok (.ifCond .le 30, 3) := dk_158 0 30 (dk_at dksX2_add_1 8 rfl rfl)
theorem dX2_add_35 : decode cX2_add 35 = .ok (.aload_n 0, 1) := dk_42 (dk_at dksX2_add_1 11 rfl rfl)
theorem dX2_add_36 : decode cX2_add 36 = .ok (.iload 4, 2) := dk_21 4 (dk_at dksX2_add_1 12 rfl rfl)
theorem dX2_add_38 : decode cX2_add 38 = .ok (.iconst 1, 1) := dk_4 (dk_at dksX2_add_1 14 rfl rfl)
theorem dX2_add_39 : decode cX2_add 39 = .ok (.isub, 1) := dk_100 (dk_at dksX2_add_1 15 rfl rfl)
theorem dX2_add_40 : decode cX2_add 40 = .ok (.iload_n 1, 1) := dk_27 (dk_at dksX2_add_1 16 rfl rfl)
theorem dX2_add_41 : decode cX2_add 41 = .ok (.iload_n 2, 1) := dk_28 (dk_at dksX2_add_1 17 rfl rfl)
theorem dX2_add_42 : decode cX2_add 42 = .ok (.invokevirtual 29, 3) := dk_182 0 29 (dk_at dksX2_add_1 18 rfl rfl)
theorem dX2_add_45 : decode cX2_add 45 = .ok (.ifCond .ne 17, 3) := dk_154 0 17 (dk_at dksX2_add_1 21 rfl rfl)
theorem dX2_add_48 : decode cX2_add 48 = .ok (.aload_n 0, 1) := dk_42 (dk_at dksX2_add_2 0 rfl rfl)
theorem dX2_add_49 : decode cX2_add 49 = .ok (.getfield 16, 3) := dk_180 0 16 (dk_at dksX2_add_2 1 rfl rfl)
theorem dX2_add_52 : decode cX2_add 52 = .ok (.iload 4, 2) := dk_21 4 (dk_at dksX2_add_2 4 rfl rfl)
theorem dX2_add_54 : decode cX2_add 54 = .ok (.iconst 1, 1) := dk_4 (dk_at dksX2_add_2 6 rfl rfl)
theorem dX2_add_55 : decode cX2_add 55 = .ok (.isub, 1) := dk_100 (dk_at dksX2_add_2 7 rfl rfl)
theorem dX2_add_56 : decode cX2_add 56 = .ok (.dup2, 1) := dk_92 (dk_at dksX2_add_2 8 rfl rfl)
theorem dX2_add_57 : decode cX2_add 57 = .ok (.iaload, 1) := dk_46 (dk_at dksX2_add_2 9 rfl rfl)
theorem dX2_add_58 : decode cX2_add 58 = .ok (.iload_n 3, 1) := dk_29 (dk_at dksX2_add_2 10 rfl rfl)
theorem dX2_add_59 : decode cX2_add 59 = .ok (.iadd, 1) := dk_96 (dk_at dksX2_add_2 11 rfl rfl)
theorem dX2_add_60 : decode cX2_add 60 = .ok (.iastore, 1) := dk_79 (dk_at dksX2_add_2 12 rfl rfl)
theorem dX2_add_61 : decode cX2_add 61 = .ok (.return_, 1) := dk_177 (dk_at dksX2_add_2 13 rfl rfl)
theorem dX2_add_62 : decode cX2_add 62 = .ok (.aload_n 0, 1) := dk_42 (dk_at dksX2_add_2 14 rfl rfl)
theorem dX2_add_63 : decode cX2_add 63 = .ok (.getfield 25, 3) := dk_180 0 25 (dk_at dksX2_add_2 15 rfl rfl)
theorem dX2_add_66 : decode cX2_add 66 = .ok (.istore 5, 2) := dk_54 5 (dk_at dksX2_add_2 18 rfl rfl)
theorem dX2_add_68 : decode cX2_add 68 = .ok (.iload 5, 2) := dk_21 5 (dk_at dksX2_add_2 20 rfl rfl)
theorem dX2_add_70 : decode cX2_add 70 = .ok (.iload 4, 2) := dk_21 4 (dk_at dksX2_add_2 22 rfl rfl)
theorem dX2_add_72 : decode cX2_add 72 = .ok (.if_icmp .le 57, 3) := dk_164 0 57 (dk_at dksX2_add_3 0 rfl rfl)
theorem dX2_add_75 : decode cX2_add 75 = .ok (.aload_n 0, 1) := dk_42 (dk_at dksX2_add_3 3 rfl rfl)
theorem dX2_add_76 : decode cX2_add 76 = .ok (.getfield 9, 3) := dk_180 0 9 (dk_at dksX2_add_3 4 rfl rfl)
theorem dX2_add_79 : decode cX2_add 79 = .ok (.iload 5, 2) := dk_21 5 (dk_at dksX2_add_3 7 rfl rfl)
theorem dX2_add_81 : decode cX2_add 81 = .ok (.aload_n 0, 1) := dk_42 (dk_at dksX2_add_3 9 rfl rfl)
theorem dX2_add_82 : decode cX2_add 82 = .ok (.getfield 9, 3) := dk_180 0 9 (dk_at dksX2_add_3 10 rfl rfl)
theorem dX2_add_85 : decode cX2_add 85 = .ok (.iload 5, 2) := dk_21 5 (dk_at dksX2_add_3 13 rfl rfl)
theorem dX2_add_87 : decode cX2_add 87 = .ok (.iconst 1, 1) := dk_4 (dk_at dksX2_add_3 15 rfl rfl)
theorem dX2_add_88 : decode cX2_add 88 = .ok (.isub, 1) := dk_100 (dk_at dksX2_add_3 16 rfl rfl)
theorem dX2_add_89 : decode cX2_add 89 = .ok (.iaload, 1) := dk_46 (dk_at dksX2_add_3 17 rfl rfl)
theorem dX2_add_90 : decode cX2_add 90 = .ok (.iastore, 1) := dk_79 (dk_at dksX2_add_3 18 rfl rfl)
theorem dX2_add_91 : decode cX2_add 91 = .ok (.aload_n 0, 1) := dk_42 (dk_at dksX2_add_3 19 rfl rfl)
theorem dX2_add_92 : decode cX2_add 92 = .ok (.getfield 13, 3) := dk_180 0 13 (dk_at dksX2_add_3 20 rfl rfl)
theorem dX2_add_95 : decode cX2_add 95 = .ok (.iload 5, 2) := dk_21 5 (dk_at dksX2_add_4 0 rfl rfl)
theorem dX2_add_97 : decode cX2_add 97 = .ok (.aload_n 0, 1) := dk_42 (dk_at dksX2_add_4 2 rfl rfl)
theorem dX2_add_98 : decode cX2_add 98 = .ok (.getfield 13, 3) := dk_180 0 13 (dk_at dksX2_add_4 3 rfl rfl)
theorem dX2_add_101 : decode cX2_add 101 = .ok (.iload 5, 2) := dk_21 5 (dk_at dksX2_add_4 6 rfl rfl)
theorem dX2_add_103 : decode cX2_add 103 = .ok (.iconst 1, 1) := dk_4 (dk_at dksX2_add_4 8 rfl rfl)
theorem dX2_add_104 : decode cX2_add 104 = .ok (.isub, 1) := dk_100 (dk_at dksX2_add_4 9 rfl rfl)
theorem dX2_add_105 : decode cX2_add 105 = .ok (.iaload, 1) := dk_46 (dk_at dksX2_add_4 10 rfl rfl)
theorem dX2_add_106 : decode cX2_add 106 = .ok (.iastore, 1) := dk_79 (dk_at dksX2_add_4 11 rfl rfl)
theorem dX2_add_107 : decode cX2_add 107 = .ok (.aload_n 0, 1) := dk_42 (dk_at dksX2_add_4 12 rfl rfl)
theorem dX2_add_108 : decode cX2_add 108 = .ok (.getfield 16, 3) := dk_180 0 16 (dk_at dksX2_add_4 13 rfl rfl)
theorem dX2_add_111 : decode cX2_add 111 = .ok (.iload 5, 2) := dk_21 5 (dk_at dksX2_add_4 16 rfl rfl)
theorem dX2_add_113 : decode cX2_add 113 = .ok (.aload_n 0, 1) := dk_42 (dk_at dksX2_add_4 18 rfl rfl)
theorem dX2_add_114 : decode cX2_add 114 = .ok (.getfield 16, 3) := dk_180 0 16 (dk_at dksX2_add_4 19 rfl rfl)
theorem dX2_add_117 : decode cX2_add 117 = .ok (.iload 5, 2) := dk_21 5 (dk_at dksX2_add_4 22 rfl rfl)
theorem dX2_add_119 : decode cX2_add 119 = .ok (.iconst 1, 1) := dk_4 (dk_at dksX2_add_5 0 rfl rfl)
theorem dX2_add_120 : decode cX2_add 120 = .ok (.isub, 1) := dk_100 (dk_at dksX2_add_5 1 rfl rfl)
theorem dX2_add_121 : decode cX2_add 121 = .ok (.iaload, 1) := dk_46 (dk_at dksX2_add_5 2 rfl rfl)
theorem dX2_add_122 : decode cX2_add 122 = .ok (.iastore, 1) := dk_79 (dk_at dksX2_add_5 3 rfl rfl)
theorem dX2_add_123 : decode cX2_add 123 = .ok (.iinc 5 (-1), 3) := dk_132 5 255 (dk_at dksX2_add_5 4 rfl rfl)
theorem dX2_add_126 : decode cX2_add 126 = .ok (.goto (-58), 3) := dk_167 255 198 (dk_at dksX2_add_5 7 rfl rfl)
theorem dX2_add_129 : decode cX2_add 129 = .ok (.aload_n 0, 1) := dk_42 (dk_at dksX2_add_5 10 rfl rfl)
theorem dX2_add_130 : decode cX2_add 130 = .ok (.getfield 9, 3) := dk_180 0 9 (dk_at dksX2_add_5 11 rfl rfl)
theorem dX2_add_133 : decode cX2_add 133 = .ok (.iload 4, 2) := dk_21 4 (dk_at dksX2_add_5 14 rfl rfl)
theorem dX2_add_135 : decode cX2_add 135 = .ok (.iload_n 1, 1) := dk_27 (dk_at dksX2_add_5 16 rfl rfl)
theorem dX2_add_136 : decode cX2_add 136 = .ok (.iastore, 1) := dk_79 (dk_at dksX2_add_5 17 rfl rfl)
theorem dX2_add_137 : decode cX2_add 137 = .ok (.aload_n 0, 1) := dk_42 (dk_at dksX2_add_5 18 rfl rfl)
theorem dX2_add_138 : decode cX2_add 138 = .ok (.getfield 13, 3) := dk_180 0 13 (dk_at dksX2_add_5 19 rfl rfl)
theorem dX2_add_141 : decode cX2_add 141 = .ok (.iload 4, 2) := dk_21 4 (dk_at dksX2_add_5 22 rfl rfl)
theorem dX2_add_143 : decode cX2_add 143 = .ok (.iload_n 2, 1) := dk_28 (dk_at dksX2_add_6 0 rfl rfl)
theorem dX2_add_144 : decode cX2_add 144 = .ok (.iastore, 1) := dk_79 (dk_at dksX2_add_6 1 rfl rfl)
theorem dX2_add_145 : decode cX2_add 145 = .ok (.aload_n 0, 1) := dk_42 (dk_at dksX2_add_6 2 rfl rfl)
theorem dX2_add_146 : decode cX2_add 146 = .ok (.getfield 16, 3) := dk_180 0 16 (dk_at dksX2_add_6 3 rfl rfl)
theorem dX2_add_149 : decode cX2_add 149 = .ok (.iload 4, 2) := dk_21 4 (dk_at dksX2_add_6 6 rfl rfl)
theorem dX2_add_151 : decode cX2_add 151 = .ok (.iload_n 3, 1) := dk_29 (dk_at dksX2_add_6 8 rfl rfl)
theorem dX2_add_152 : decode cX2_add 152 = .ok (.iastore, 1) := dk_79 (dk_at dksX2_add_6 9 rfl rfl)
theorem dX2_add_153 : decode cX2_add 153 = .ok (.aload_n 0, 1) := dk_42 (dk_at dksX2_add_6 10 rfl rfl)
theorem dX2_add_154 : decode cX2_add 154 = .ok (.dup, 1) := dk_89 (dk_at dksX2_add_6 11 rfl rfl)
theorem dX2_add_155 : decode cX2_add 155 = .ok (.getfield 25, 3) := dk_180 0 25 (dk_at dksX2_add_6 12 rfl rfl)
theorem dX2_add_158 : decode cX2_add 158 = .ok (.iconst 1, 1) := dk_4 (dk_at dksX2_add_6 15 rfl rfl)
theorem dX2_add_159 : decode cX2_add 159 = .ok (.iadd, 1) := dk_96 (dk_at dksX2_add_6 16 rfl rfl)
theorem dX2_add_160 : decode cX2_add 160 = .ok (.putfield 25, 3) := dk_181 0 25 (dk_at dksX2_add_6 17 rfl rfl)
theorem dX2_add_163 : decode cX2_add 163 = .ok (.return_, 1) := dk_177 (dk_at dksX2_add_6 20 rfl rfl)
abbrev cX2_compare : ByteArray := prog_12_method_2_code
def yX2_compare : MethodName := ⟨RX2, "compare", "(III)I"⟩
def dkwX2_compare_1 : List UInt8 := [180, 0, 13, 27, 46, 29, 184, 0, 19, 172]
abbrev dktX2_compare_1 : List UInt8 := dkwX2_compare_1 ++ []
def dkwX2_compare_0 : List UInt8 := [42, 180, 0, 9, 27, 46, 28, 159, 0, 16, 42, 180, 0, 9, 27, 46, 28, 184, 0, 19, 167, 0, 13, 42]
abbrev dktX2_compare_0 : List UInt8 := dkwX2_compare_0 ++ dktX2_compare_1
theorem dksX2_compare_0 : cX2_compare.data.toList.drop 0 = dktX2_compare_0 := by decide +kernel
theorem dksX2_compare_1 : cX2_compare.data.toList.drop 24 = dktX2_compare_1 := dk_seg dksX2_compare_0 24 rfl rfl
theorem dX2_compare_0 : decode cX2_compare 0 = .ok (.aload_n 0, 1) := dk_42 (dk_at dksX2_compare_0 0 rfl rfl)
theorem dX2_compare_1 : decode cX2_compare 1 = .ok (.getfield 9, 3) := dk_180 0 9 (dk_at dksX2_compare_0 1 rfl rfl)
theorem dX2_compare_4 : decode cX2_compare 4 = .ok (.iload_n 1, 1) := dk_27 (dk_at dksX2_compare_0 4 rfl rfl)
theorem dX2_compare_5 : decode cX2_compare 5 = .ok (.iaload, 1) := dk_46 (dk_at dksX2_compare_0 5 rfl rfl)
theorem dX2_compare_6 : decode cX2_compare 6 = .ok (.iload_n 2, 1) := dk_28 (dk_at dksX2_compare_0 6 rfl rfl)
theorem dX2_compare_7 : decode cX2_compare 7 = .ok (.if_icmp .eq 16, 3) := dk_159 0 16 (dk_at dksX2_compare_0 7 rfl rfl)
theorem dX2_compare_10 : decode cX2_compare 10 = .ok (.aload_n 0, 1) := dk_42 (dk_at dksX2_compare_0 10 rfl rfl)
theorem dX2_compare_11 : decode cX2_compare 11 = .ok (.getfield 9, 3) := dk_180 0 9 (dk_at dksX2_compare_0 11 rfl rfl)
theorem dX2_compare_14 : decode cX2_compare 14 = .ok (.iload_n 1, 1) := dk_27 (dk_at dksX2_compare_0 14 rfl rfl)
theorem dX2_compare_15 : decode cX2_compare 15 = .ok (.iaload, 1) := dk_46 (dk_at dksX2_compare_0 15 rfl rfl)
theorem dX2_compare_16 : decode cX2_compare 16 = .ok (.iload_n 2, 1) := dk_28 (dk_at dksX2_compare_0 16 rfl rfl)
theorem dX2_compare_17 : decode cX2_compare 17 = .ok (.invokestatic 19, 3) := dk_184 0 19 (dk_at dksX2_compare_0 17 rfl rfl)
theorem dX2_compare_20 : decode cX2_compare 20 = .ok (.goto 13, 3) := dk_167 0 13 (dk_at dksX2_compare_0 20 rfl rfl)
theorem dX2_compare_23 : decode cX2_compare 23 = .ok (.aload_n 0, 1) := dk_42 (dk_at dksX2_compare_0 23 rfl rfl)
theorem dX2_compare_24 : decode cX2_compare 24 = .ok (.getfield 13, 3) := dk_180 0 13 (dk_at dksX2_compare_1 0 rfl rfl)
theorem dX2_compare_27 : decode cX2_compare 27 = .ok (.iload_n 1, 1) := dk_27 (dk_at dksX2_compare_1 3 rfl rfl)
theorem dX2_compare_28 : decode cX2_compare 28 = .ok (.iaload, 1) := dk_46 (dk_at dksX2_compare_1 4 rfl rfl)
theorem dX2_compare_29 : decode cX2_compare 29 = .ok (.iload_n 3, 1) := dk_29 (dk_at dksX2_compare_1 5 rfl rfl)
theorem dX2_compare_30 : decode cX2_compare 30 = .ok (.invokestatic 19, 3) := dk_184 0 19 (dk_at dksX2_compare_1 6 rfl rfl)
theorem dX2_compare_33 : decode cX2_compare 33 = .ok (.ireturn, 1) := dk_172 (dk_at dksX2_compare_1 9 rfl rfl)
abbrev cX2_copyTo : ByteArray := prog_12_method_4_code
def yX2_copyTo : MethodName := ⟨RX2, "copyTo", "(LAnimationController$Pose;)V"⟩
def dkwX2_copyTo_2 : List UInt8 := [3, 43, 180, 0, 16, 3, 42, 180, 0, 25, 184, 0, 32, 177]
abbrev dktX2_copyTo_2 : List UInt8 := dkwX2_copyTo_2 ++ []
def dkwX2_copyTo_1 : List UInt8 := [184, 0, 32, 42, 180, 0, 13, 3, 43, 180, 0, 13, 3, 42, 180, 0, 25, 184, 0, 32, 42, 180, 0, 16]
abbrev dktX2_copyTo_1 : List UInt8 := dkwX2_copyTo_1 ++ dktX2_copyTo_2
def dkwX2_copyTo_0 : List UInt8 := [43, 42, 180, 0, 25, 181, 0, 25, 42, 180, 0, 9, 3, 43, 180, 0, 9, 3, 42, 180, 0, 25]
abbrev dktX2_copyTo_0 : List UInt8 := dkwX2_copyTo_0 ++ dktX2_copyTo_1
theorem dksX2_copyTo_0 : cX2_copyTo.data.toList.drop 0 = dktX2_copyTo_0 := by decide +kernel
theorem dksX2_copyTo_1 : cX2_copyTo.data.toList.drop 22 = dktX2_copyTo_1 := dk_seg dksX2_copyTo_0 22 rfl rfl
theorem dksX2_copyTo_2 : cX2_copyTo.data.toList.drop 46 = dktX2_copyTo_2 := dk_seg dksX2_copyTo_1 24 rfl rfl
theorem dX2_copyTo_0 : decode cX2_copyTo 0 = .ok (.aload_n 1, 1) := dk_43 (dk_at dksX2_copyTo_0 0 rfl rfl)
theorem dX2_copyTo_1 : decode cX2_copyTo 1 = .ok (.aload_n 0, 1) := dk_42 (dk_at dksX2_copyTo_0 1 rfl rfl)
theorem dX2_copyTo_2 : decode cX2_copyTo 2 = .ok (.getfield 25, 3) := dk_180 0 25 (dk_at dksX2_copyTo_0 2 rfl rfl)
theorem dX2_copyTo_5 : decode cX2_copyTo 5 = .ok (.putfield 25, 3) := dk_181 0 25 (dk_at dksX2_copyTo_0 5 rfl rfl)
theorem dX2_copyTo_8 : decode cX2_copyTo 8 = .ok (.aload_n 0, 1) := dk_42 (dk_at dksX2_copyTo_0 8 rfl rfl)
theorem dX2_copyTo_9 : decode cX2_copyTo 9 = .ok (.getfield 9, 3) := dk_180 0 9 (dk_at dksX2_copyTo_0 9 rfl rfl)
theorem dX2_copyTo_12 : decode cX2_copyTo 12 = .ok (.iconst 0, 1) := dk_3 (dk_at dksX2_copyTo_0 12 rfl rfl)
theorem dX2_copyTo_13 : decode cX2_copyTo 13 = .ok (.aload_n 1, 1) := dk_43 (dk_at dksX2_copyTo_0 13 rfl rfl)
theorem dX2_copyTo_14 : decode cX2_copyTo 14 = .ok (.getfield 9, 3) := dk_180 0 9 (dk_at dksX2_copyTo_0 14 rfl rfl)
theorem dX2_copyTo_17 : decode cX2_copyTo 17 = .ok (.iconst 0, 1) := dk_3 (dk_at dksX2_copyTo_0 17 rfl rfl)
theorem dX2_copyTo_18 : decode cX2_copyTo 18 = .ok (.aload_n 0, 1) := dk_42 (dk_at dksX2_copyTo_0 18 rfl rfl)
theorem dX2_copyTo_19 : decode cX2_copyTo 19 = .ok (.getfield 25, 3) := dk_180 0 25 (dk_at dksX2_copyTo_0 19 rfl rfl)
theorem dX2_copyTo_22 : decode cX2_copyTo 22 = .ok (.invokestatic 32, 3) := dk_184 0 32 (dk_at dksX2_copyTo_1 0 rfl rfl)
theorem dX2_copyTo_25 : decode cX2_copyTo 25 = .ok (.aload_n 0, 1) := dk_42 (dk_at dksX2_copyTo_1 3 rfl rfl)
theorem dX2_copyTo_26 : decode cX2_copyTo 26 = .ok (.getfield 13, 3) := dk_180 0 13 (dk_at dksX2_copyTo_1 4 rfl rfl)
theorem dX2_copyTo_29 : decode cX2_copyTo 29 = .ok (.iconst 0, 1) := dk_3 (dk_at dksX2_copyTo_1 7 rfl rfl)
theorem dX2_copyTo_30 : decode cX2_copyTo 30 = .ok (.aload_n 1, 1) := dk_43 (dk_at dksX2_copyTo_1 8 rfl rfl)
theorem dX2_copyTo_31 : decode cX2_copyTo 31 = .ok (.getfield 13, 3) := dk_180 0 13 (dk_at dksX2_copyTo_1 9 rfl rfl)
theorem dX2_copyTo_34 : decode cX2_copyTo 34 = .ok (.iconst 0, 1) := dk_3 (dk_at dksX2_copyTo_1 12 rfl rfl)
theorem dX2_copyTo_35 : decode cX2_copyTo 35 = .ok (.aload_n 0, 1) := dk_42 (dk_at dksX2_copyTo_1 13 rfl rfl)
theorem dX2_copyTo_36 : decode cX2_copyTo 36 = .ok (.getfield 25, 3) := dk_180 0 25 (dk_at dksX2_copyTo_1 14 rfl rfl)
theorem dX2_copyTo_39 : decode cX2_copyTo 39 = .ok (.invokestatic 32, 3) := dk_184 0 32 (dk_at dksX2_copyTo_1 17 rfl rfl)
theorem dX2_copyTo_42 : decode cX2_copyTo 42 = .ok (.aload_n 0, 1) := dk_42 (dk_at dksX2_copyTo_1 20 rfl rfl)
theorem dX2_copyTo_43 : decode cX2_copyTo 43 = .ok (.getfield 16, 3) := dk_180 0 16 (dk_at dksX2_copyTo_1 21 rfl rfl)
theorem dX2_copyTo_46 : decode cX2_copyTo 46 = .ok (.iconst 0, 1) := dk_3 (dk_at dksX2_copyTo_2 0 rfl rfl)
theorem dX2_copyTo_47 : decode cX2_copyTo 47 = .ok (.aload_n 1, 1) := dk_43 (dk_at dksX2_copyTo_2 1 rfl rfl)
theorem dX2_copyTo_48 : decode cX2_copyTo 48 = .ok (.getfield 16, 3) := dk_180 0 16 (dk_at dksX2_copyTo_2 2 rfl rfl)
theorem dX2_copyTo_51 : decode cX2_copyTo 51 = .ok (.iconst 0, 1) := dk_3 (dk_at dksX2_copyTo_2 5 rfl rfl)
theorem dX2_copyTo_52 : decode cX2_copyTo 52 = .ok (.aload_n 0, 1) := dk_42 (dk_at dksX2_copyTo_2 6 rfl rfl)
theorem dX2_copyTo_53 : decode cX2_copyTo 53 = .ok (.getfield 25, 3) := dk_180 0 25 (dk_at dksX2_copyTo_2 7 rfl rfl)
theorem dX2_copyTo_56 : decode cX2_copyTo 56 = .ok (.invokestatic 32, 3) := dk_184 0 32 (dk_at dksX2_copyTo_2 10 rfl rfl)
theorem dX2_copyTo_59 : decode cX2_copyTo 59 = .ok (.return_, 1) := dk_177 (dk_at dksX2_copyTo_2 13 rfl rfl)
theorem q128 : (Jvm.Cond.initialized "AnimationController$Pose") ∈ lw_all := lw_g (lw_at lw_m1 21 rfl) rfl
theorem q518 : (Jvm.Cond.instantiable "AnimationController$Pose" (4 : Nat)) ∈ lw_all := lw_g (lw_at lw_m2 171 rfl) rfl
theorem q520 : (Jvm.Cond.instanceMethod ({ cls := "AnimationController$Pose", name := "<init>", desc := "()V" } : Jvm.MethodName)) ∈ lw_all := lw_g (lw_at lw_m2 173 rfl) rfl
theorem q521 : (Jvm.Cond.code ({ cls := "AnimationController$Pose", name := "<init>", desc := "()V" } : Jvm.MethodName) prog_12_method_1_code (1 : Nat) (Option.none : Option Jvm.ClassFile.FieldType)) ∈ lw_all := lw_g (lw_at lw_m2 174 rfl) rfl
theorem q522 : (Jvm.Cond.methodLink "AnimationController$Pose" (1 : Nat) ({ cls := "java/lang/Object", name := "<init>", desc := "()V" } : Jvm.MethodName)) ∈ lw_all := lw_g (lw_at lw_m2 175 rfl) rfl
theorem q523 : (Jvm.Cond.fieldLink "AnimationController$Pose" (9 : Nat) "AnimationController$Pose" "clipNumbers" "[I") ∈ lw_all := lw_g (lw_at lw_m2 176 rfl) rfl
theorem q526 : (Jvm.Cond.fieldLink "AnimationController$Pose" (13 : Nat) "AnimationController$Pose" "times" "[I") ∈ lw_all := lw_g (lw_at lw_m2 179 rfl) rfl
theorem q529 : (Jvm.Cond.fieldLink "AnimationController$Pose" (16 : Nat) "AnimationController$Pose" "weights" "[I") ∈ lw_all := lw_g (lw_at lw_m2 182 rfl) rfl
theorem q532 : (Jvm.Cond.fieldLink "AnimationController$Pose" (25 : Nat) "AnimationController$Pose" "many" "I") ∈ lw_all := lw_g (lw_at lw_m2 185 rfl) rfl
theorem q535 : (Jvm.Cond.laysFinal "AnimationController$Pose" "AnimationController$Pose" "clipNumbers" "[I") ∈ lw_all := lw_g (lw_at lw_m2 188 rfl) rfl
theorem q536 : (Jvm.Cond.soleField "AnimationController$Pose" "clipNumbers") ∈ lw_all := lw_g (lw_at lw_m2 189 rfl) rfl
theorem q537 : (Jvm.Cond.laysFinal "AnimationController$Pose" "AnimationController$Pose" "times" "[I") ∈ lw_all := lw_g (lw_at lw_m2 190 rfl) rfl
theorem q538 : (Jvm.Cond.soleField "AnimationController$Pose" "times") ∈ lw_all := lw_g (lw_at lw_m2 191 rfl) rfl
theorem q539 : (Jvm.Cond.laysFinal "AnimationController$Pose" "AnimationController$Pose" "weights" "[I") ∈ lw_all := lw_g (lw_at lw_m2 192 rfl) rfl
theorem q540 : (Jvm.Cond.soleField "AnimationController$Pose" "weights") ∈ lw_all := lw_g (lw_at lw_m2 193 rfl) rfl
theorem q541 : (Jvm.Cond.lays "AnimationController$Pose" "AnimationController$Pose" "many" "I") ∈ lw_all := lw_g (lw_at lw_m2 194 rfl) rfl
theorem q542 : (Jvm.Cond.soleField "AnimationController$Pose" "many") ∈ lw_all := lw_g (lw_at lw_m2 195 rfl) rfl
theorem q543 : (Jvm.Cond.superclass "AnimationController$Pose" "java/lang/Object") ∈ lw_all := lw_g (lw_at lw_m2 196 rfl) rfl
theorem q834 : (Jvm.Cond.instanceMethod ({ cls := "AnimationController$Pose", name := "add", desc := "(III)V" } : Jvm.MethodName)) ∈ lw_all := lw_g (lw_at lw_m4 7 rfl) rfl
theorem q835 : (Jvm.Cond.selects "AnimationController$Pose" ({ cls := "AnimationController$Pose", name := "add", desc := "(III)V" } : Jvm.MethodName) ({ cls := "AnimationController$Pose", name := "add", desc := "(III)V" } : Jvm.MethodName)) ∈ lw_all := lw_g (lw_at lw_m4 8 rfl) rfl
theorem q836 : (Jvm.Cond.code ({ cls := "AnimationController$Pose", name := "add", desc := "(III)V" } : Jvm.MethodName) prog_12_method_3_code (6 : Nat) (Option.none : Option Jvm.ClassFile.FieldType)) ∈ lw_all := lw_g (lw_at lw_m4 9 rfl) rfl
theorem q837 : (Jvm.Cond.methodLink "AnimationController$Pose" (29 : Nat) ({ cls := "AnimationController$Pose", name := "compare", desc := "(III)I" } : Jvm.MethodName)) ∈ lw_all := lw_g (lw_at lw_m4 10 rfl) rfl
theorem q838 : (Jvm.Cond.privateMethod ({ cls := "AnimationController$Pose", name := "compare", desc := "(III)I" } : Jvm.MethodName)) ∈ lw_tbl := lw_at lw_m4 11 rfl
theorem q839 : (Jvm.Cond.instanceMethod ({ cls := "AnimationController$Pose", name := "compare", desc := "(III)I" } : Jvm.MethodName)) ∈ lw_all := lw_g (lw_at lw_m4 12 rfl) rfl
theorem q840 : (Jvm.Cond.code ({ cls := "AnimationController$Pose", name := "compare", desc := "(III)I" } : Jvm.MethodName) prog_12_method_2_code (4 : Nat) (Option.some Jvm.ClassFile.FieldType.int)) ∈ lw_all := lw_g (lw_at lw_m4 13 rfl) rfl
theorem q841 : (Jvm.Cond.methodLink "AnimationController$Pose" (19 : Nat) ({ cls := "java/lang/Integer", name := "compare", desc := "(II)I" } : Jvm.MethodName)) ∈ lw_all := lw_g (lw_at lw_m4 14 rfl) rfl
theorem q1124 : (Jvm.Cond.selects "AnimationController$Pose" ({ cls := "java/lang/Object", name := "getClass", desc := "()Ljava/lang/Class;" } : Jvm.MethodName) ({ cls := "java/lang/Object", name := "getClass", desc := "()Ljava/lang/Class;" } : Jvm.MethodName)) ∈ lw_all := lw_g (lw_at lw_m5 57 rfl) rfl
theorem q1284 : (Jvm.Cond.selects "AnimationController$Pose" ({ cls := "java/lang/Object", name := "hashCode", desc := "()I" } : Jvm.MethodName) ({ cls := "java/lang/Object", name := "hashCode", desc := "()I" } : Jvm.MethodName)) ∈ lw_all := lw_g (lw_at lw_m5 217 rfl) rfl
theorem q1381 : (Jvm.Cond.selects "AnimationController$Pose" ({ cls := "java/lang/Object", name := "equals", desc := "(Ljava/lang/Object;)Z" } : Jvm.MethodName) ({ cls := "java/lang/Object", name := "equals", desc := "(Ljava/lang/Object;)Z" } : Jvm.MethodName)) ∈ lw_all := lw_g (lw_at lw_m6 74 rfl) rfl
theorem q2388 : (Jvm.Cond.instanceMethod ({ cls := "AnimationController$Pose", name := "copyTo", desc := "(LAnimationController$Pose;)V" } : Jvm.MethodName)) ∈ lw_all := lw_g (lw_at lw_m10 121 rfl) rfl
theorem q2389 : (Jvm.Cond.selects "AnimationController$Pose" ({ cls := "AnimationController$Pose", name := "copyTo", desc := "(LAnimationController$Pose;)V" } : Jvm.MethodName) ({ cls := "AnimationController$Pose", name := "copyTo", desc := "(LAnimationController$Pose;)V" } : Jvm.MethodName)) ∈ lw_all := lw_g (lw_at lw_m10 122 rfl) rfl
theorem q2390 : (Jvm.Cond.code ({ cls := "AnimationController$Pose", name := "copyTo", desc := "(LAnimationController$Pose;)V" } : Jvm.MethodName) prog_12_method_4_code (2 : Nat) (Option.none : Option Jvm.ClassFile.FieldType)) ∈ lw_all := lw_g (lw_at lw_m10 123 rfl) rfl
theorem q2391 : (Jvm.Cond.methodLink "AnimationController$Pose" (32 : Nat) ({ cls := "java/lang/System", name := "arraycopy", desc := "(Ljava/lang/Object;ILjava/lang/Object;II)V" } : Jvm.MethodName)) ∈ lw_all := lw_g (lw_at lw_m10 124 rfl) rfl
theorem q3297 : (Jvm.Cond.castable "AnimationController$Pose" "java/lang/Object") ∈ lw_tbl := lw_at lw_m14 70 rfl
theorem in_X2 : ∀ w ∈ wsX20, w ∈ lw_all := lw_in wsX20 [535, 537, 539, 541] (by decide +kernel) (by decide +kernel)

/-! AnimationController$Blend -/
set_option maxRecDepth 100000
def RX3 : String := "AnimationController$Blend"
def TX3 : u_T := fun k => match k with
  | 0 => ("AnimationController$Blend", "weights", "[I", true)
  | _ => ("AnimationController$Blend", "this$0", "LAnimationController;", true)
def tyX3 : Nat → FieldType := fun k => match k with
  | 0 => .array .int
  | _ => .object "AnimationController"
abbrev wsX30 : List Cond := u_ws RX3 TX3 2
theorem nmX3 : ∀ a, a < 2 → ∀ b, b < 2 → a ≠ b → (TX3 a).2.1 ≠ (TX3 b).2.1 := by decide +kernel
theorem tyX3_ok : ∀ k, k < 2 → parseFieldDescriptor (TX3 k).2.2.1 = some (tyX3 k) := by decide +kernel
abbrev cX3_init : ByteArray := prog_2_method_1_code
def yX3_init : MethodName := ⟨RX3, "<init>", "(LAnimationController;)V"⟩
def dkwX3_init_0 : List UInt8 := [42, 43, 181, 0, 3, 42, 183, 0, 9, 42, 16, 12, 188, 10, 181, 0, 15, 177]
abbrev dktX3_init_0 : List UInt8 := dkwX3_init_0 ++ []
theorem dksX3_init_0 : cX3_init.data.toList.drop 0 = dktX3_init_0 := by decide +kernel
theorem dX3_init_0 : decode cX3_init 0 = .ok (.aload_n 0, 1) := dk_42 (dk_at dksX3_init_0 0 rfl rfl)
theorem dX3_init_1 : decode cX3_init 1 = .ok (.aload_n 1, 1) := dk_43 (dk_at dksX3_init_0 1 rfl rfl)
theorem dX3_init_2 : decode cX3_init 2 = .ok (.putfield 3, 3) := dk_181 0 3 (dk_at dksX3_init_0 2 rfl rfl)
theorem dX3_init_5 : decode cX3_init 5 = .ok (.aload_n 0, 1) := dk_42 (dk_at dksX3_init_0 5 rfl rfl)
theorem dX3_init_6 : decode cX3_init 6 = .ok (.invokespecial 9, 3) := dk_183 0 9 (dk_at dksX3_init_0 6 rfl rfl)
theorem dX3_init_9 : decode cX3_init 9 = .ok (.aload_n 0, 1) := dk_42 (dk_at dksX3_init_0 9 rfl rfl)
theorem dX3_init_10 : decode cX3_init 10 = .ok (.bipush 12, 2) := dk_16 12 (dk_at dksX3_init_0 10 rfl rfl)
theorem dX3_init_12 : decode cX3_init 12 = .ok (.newarray .int, 2) := dk_188_10 (dk_at dksX3_init_0 12 rfl rfl)
theorem dX3_init_14 : decode cX3_init 14 = .ok (.putfield 15, 3) := dk_181 0 15 (dk_at dksX3_init_0 14 rfl rfl)
theorem dX3_init_17 : decode cX3_init 17 = .ok (.return_, 1) := dk_177 (dk_at dksX3_init_0 17 rfl rfl)
abbrev cX3_clear : ByteArray := prog_2_method_2_code
def yX3_clear : MethodName := ⟨RX3, "clear", "()V"⟩
def dkwX3_clear_0 : List UInt8 := [3, 60, 27, 16, 12, 162, 0, 16, 42, 180, 0, 15, 27, 3, 79, 132, 1, 1, 167, 255, 240, 177]
abbrev dktX3_clear_0 : List UInt8 := dkwX3_clear_0 ++ []
theorem dksX3_clear_0 : cX3_clear.data.toList.drop 0 = dktX3_clear_0 := by decide +kernel
theorem dX3_clear_0 : decode cX3_clear 0 = .ok (.iconst 0, 1) := dk_3 (dk_at dksX3_clear_0 0 rfl rfl)
theorem dX3_clear_1 : decode cX3_clear 1 = .ok (.istore_n 1, 1) := dk_60 (dk_at dksX3_clear_0 1 rfl rfl)
theorem dX3_clear_2 : decode cX3_clear 2 = .ok (.iload_n 1, 1) := dk_27 (dk_at dksX3_clear_0 2 rfl rfl)
theorem dX3_clear_3 : decode cX3_clear 3 = .ok (.bipush 12, 2) := dk_16 12 (dk_at dksX3_clear_0 3 rfl rfl)
theorem dX3_clear_5 : decode cX3_clear 5 = .ok (.if_icmp .ge 16, 3) := dk_162 0 16 (dk_at dksX3_clear_0 5 rfl rfl)
theorem dX3_clear_8 : decode cX3_clear 8 = .ok (.aload_n 0, 1) := dk_42 (dk_at dksX3_clear_0 8 rfl rfl)
theorem dX3_clear_9 : decode cX3_clear 9 = .ok (.getfield 15, 3) := dk_180 0 15 (dk_at dksX3_clear_0 9 rfl rfl)
theorem dX3_clear_12 : decode cX3_clear 12 = .ok (.iload_n 1, 1) := dk_27 (dk_at dksX3_clear_0 12 rfl rfl)
theorem dX3_clear_13 : decode cX3_clear 13 = .ok (.iconst 0, 1) := dk_3 (dk_at dksX3_clear_0 13 rfl rfl)
theorem dX3_clear_14 : decode cX3_clear 14 = .ok (.iastore, 1) := dk_79 (dk_at dksX3_clear_0 14 rfl rfl)
theorem dX3_clear_15 : decode cX3_clear 15 = .ok (.iinc 1 1, 3) := dk_132 1 1 (dk_at dksX3_clear_0 15 rfl rfl)
theorem dX3_clear_18 : decode cX3_clear 18 = .ok (.goto (-16), 3) := dk_167 255 240 (dk_at dksX3_clear_0 18 rfl rfl)
theorem dX3_clear_21 : decode cX3_clear 21 = .ok (.return_, 1) := dk_177 (dk_at dksX3_clear_0 21 rfl rfl)
abbrev cX3_add : ByteArray := prog_2_method_3_code
def yX3_add : MethodName := ⟨RX3, "add", "(II)V"⟩
def dkwX3_add_0 : List UInt8 := [42, 180, 0, 15, 27, 92, 46, 28, 96, 79, 177]
abbrev dktX3_add_0 : List UInt8 := dkwX3_add_0 ++ []
theorem dksX3_add_0 : cX3_add.data.toList.drop 0 = dktX3_add_0 := by decide +kernel
theorem dX3_add_0 : decode cX3_add 0 = .ok (.aload_n 0, 1) := dk_42 (dk_at dksX3_add_0 0 rfl rfl)
theorem dX3_add_1 : decode cX3_add 1 = .ok (.getfield 15, 3) := dk_180 0 15 (dk_at dksX3_add_0 1 rfl rfl)
theorem dX3_add_4 : decode cX3_add 4 = .ok (.iload_n 1, 1) := dk_27 (dk_at dksX3_add_0 4 rfl rfl)
theorem dX3_add_5 : decode cX3_add 5 = .ok (.dup2, 1) := dk_92 (dk_at dksX3_add_0 5 rfl rfl)
theorem dX3_add_6 : decode cX3_add 6 = .ok (.iaload, 1) := dk_46 (dk_at dksX3_add_0 6 rfl rfl)
theorem dX3_add_7 : decode cX3_add 7 = .ok (.iload_n 2, 1) := dk_28 (dk_at dksX3_add_0 7 rfl rfl)
theorem dX3_add_8 : decode cX3_add 8 = .ok (.iadd, 1) := dk_96 (dk_at dksX3_add_0 8 rfl rfl)
theorem dX3_add_9 : decode cX3_add 9 = .ok (.iastore, 1) := dk_79 (dk_at dksX3_add_0 9 rfl rfl)
theorem dX3_add_10 : decode cX3_add 10 = .ok (.return_, 1) := dk_177 (dk_at dksX3_add_0 10 rfl rfl)
abbrev cX3_length : ByteArray := prog_2_method_4_code
def yX3_length : MethodName := ⟨RX3, "length", "()J"⟩
def dkwX3_length_2 : List UInt8 := [132, 3, 1, 167, 255, 210, 31, 173]
abbrev dktX3_length_2 : List UInt8 := dkwX3_length_2 ++ []
def dkwX3_length_1 : List UInt8 := [46, 133, 42, 180, 0, 3, 180, 0, 19, 29, 182, 0, 29, 192, 0, 33, 180, 0, 35, 133, 105, 97, 64]
abbrev dktX3_length_1 : List UInt8 := dkwX3_length_1 ++ dktX3_length_2
def dkwX3_length_0 : List UInt8 := [9, 64, 3, 62, 29, 42, 180, 0, 3, 180, 0, 19, 182, 0, 23, 162, 0, 38, 31, 42, 180, 0, 15, 29]
abbrev dktX3_length_0 : List UInt8 := dkwX3_length_0 ++ dktX3_length_1
theorem dksX3_length_0 : cX3_length.data.toList.drop 0 = dktX3_length_0 := by decide +kernel
theorem dksX3_length_1 : cX3_length.data.toList.drop 24 = dktX3_length_1 := dk_seg dksX3_length_0 24 rfl rfl
theorem dksX3_length_2 : cX3_length.data.toList.drop 47 = dktX3_length_2 := dk_seg dksX3_length_1 23 rfl rfl
theorem dX3_length_0 : decode cX3_length 0 = .ok (.lconst 0, 1) := dk_9 (dk_at dksX3_length_0 0 rfl rfl)
theorem dX3_length_1 : decode cX3_length 1 = .ok (.lstore_n 1, 1) := dk_64 (dk_at dksX3_length_0 1 rfl rfl)
theorem dX3_length_2 : decode cX3_length 2 = .ok (.iconst 0, 1) := dk_3 (dk_at dksX3_length_0 2 rfl rfl)
theorem dX3_length_3 : decode cX3_length 3 = .ok (.istore_n 3, 1) := dk_62 (dk_at dksX3_length_0 3 rfl rfl)
theorem dX3_length_4 : decode cX3_length 4 = .ok (.iload_n 3, 1) := dk_29 (dk_at dksX3_length_0 4 rfl rfl)
theorem dX3_length_5 : decode cX3_length 5 = .ok (.aload_n 0, 1) := dk_42 (dk_at dksX3_length_0 5 rfl rfl)
theorem dX3_length_6 : decode cX3_length 6 = .ok (.getfield 3, 3) := dk_180 0 3 (dk_at dksX3_length_0 6 rfl rfl)
theorem dX3_length_9 : decode cX3_length 9 = .ok (.getfield 19, 3) := dk_180 0 19 (dk_at dksX3_length_0 9 rfl rfl)
theorem dX3_length_12 : decode cX3_length 12 = .ok (.invokevirtual 23, 3) := dk_182 0 23 (dk_at dksX3_length_0 12 rfl rfl)
theorem dX3_length_15 : decode cX3_length 15 = .ok (.if_icmp .ge 38, 3) := dk_162 0 38 (dk_at dksX3_length_0 15 rfl rfl)
theorem dX3_length_18 : decode cX3_length 18 = .ok (.lload_n 1, 1) := dk_31 (dk_at dksX3_length_0 18 rfl rfl)
theorem dX3_length_19 : decode cX3_length 19 = .ok (.aload_n 0, 1) := dk_42 (dk_at dksX3_length_0 19 rfl rfl)
theorem dX3_length_20 : decode cX3_length 20 = .ok (.getfield 15, 3) := dk_180 0 15 (dk_at dksX3_length_0 20 rfl rfl)
theorem dX3_length_23 : decode cX3_length 23 = .ok (.iload_n 3, 1) := dk_29 (dk_at dksX3_length_0 23 rfl rfl)
theorem dX3_length_24 : decode cX3_length 24 = .ok (.iaload, 1) := dk_46 (dk_at dksX3_length_1 0 rfl rfl)
theorem dX3_length_25 : decode cX3_length 25 = .ok (.i2l, 1) := dk_133 (dk_at dksX3_length_1 1 rfl rfl)
theorem dX3_length_26 : decode cX3_length 26 = .ok (.aload_n 0, 1) := dk_42 (dk_at dksX3_length_1 2 rfl rfl)
theorem dX3_length_27 : decode cX3_length 27 = .ok (.getfield 3, 3) := dk_180 0 3 (dk_at dksX3_length_1 3 rfl rfl)
theorem dX3_length_30 : decode cX3_length 30 = .ok (.getfield 19, 3) := dk_180 0 19 (dk_at dksX3_length_1 6 rfl rfl)
theorem dX3_length_33 : decode cX3_length 33 = .ok (.iload_n 3, 1) := dk_29 (dk_at dksX3_length_1 9 rfl rfl)
theorem dX3_length_34 : decode cX3_length 34 = .ok (.invokevirtual 29, 3) := dk_182 0 29 (dk_at dksX3_length_1 10 rfl rfl)
theorem dX3_length_37 : decode cX3_length 37 = .ok (.checkcast 33, 3) := dk_192 0 33 (dk_at dksX3_length_1 13 rfl rfl)
theorem dX3_length_40 : decode cX3_length 40 = .ok (.getfield 35, 3) := dk_180 0 35 (dk_at dksX3_length_1 16 rfl rfl)
theorem dX3_length_43 : decode cX3_length 43 = .ok (.i2l, 1) := dk_133 (dk_at dksX3_length_1 19 rfl rfl)
theorem dX3_length_44 : decode cX3_length 44 = .ok (.lmul, 1) := dk_105 (dk_at dksX3_length_1 20 rfl rfl)
theorem dX3_length_45 : decode cX3_length 45 = .ok (.ladd, 1) := dk_97 (dk_at dksX3_length_1 21 rfl rfl)
theorem dX3_length_46 : decode cX3_length 46 = .ok (.lstore_n 1, 1) := dk_64 (dk_at dksX3_length_1 22 rfl rfl)
theorem dX3_length_47 : decode cX3_length 47 = .ok (.iinc 3 1, 3) := dk_132 3 1 (dk_at dksX3_length_2 0 rfl rfl)
theorem dX3_length_50 : decode cX3_length 50 = .ok (.goto (-46), 3) := dk_167 255 210 (dk_at dksX3_length_2 3 rfl rfl)
theorem dX3_length_53 : decode cX3_length 53 = .ok (.lload_n 1, 1) := dk_31 (dk_at dksX3_length_2 6 rfl rfl)
theorem dX3_length_54 : decode cX3_length 54 = .ok (.lreturn, 1) := dk_173 (dk_at dksX3_length_2 7 rfl rfl)
theorem q129 : (Jvm.Cond.initialized "AnimationController$Blend") ∈ lw_all := lw_g (lw_at lw_m1 22 rfl) rfl
theorem q546 : (Jvm.Cond.instantiable "AnimationController$Blend" (2 : Nat)) ∈ lw_all := lw_g (lw_at lw_m2 199 rfl) rfl
theorem q548 : (Jvm.Cond.instanceMethod ({ cls := "AnimationController$Blend", name := "<init>", desc := "(LAnimationController;)V" } : Jvm.MethodName)) ∈ lw_all := lw_g (lw_at lw_m2 201 rfl) rfl
theorem q549 : (Jvm.Cond.code ({ cls := "AnimationController$Blend", name := "<init>", desc := "(LAnimationController;)V" } : Jvm.MethodName) prog_2_method_1_code (2 : Nat) (Option.none : Option Jvm.ClassFile.FieldType)) ∈ lw_all := lw_g (lw_at lw_m2 202 rfl) rfl
theorem q550 : (Jvm.Cond.methodLink "AnimationController$Blend" (9 : Nat) ({ cls := "java/lang/Object", name := "<init>", desc := "()V" } : Jvm.MethodName)) ∈ lw_all := lw_g (lw_at lw_m2 203 rfl) rfl
theorem q551 : (Jvm.Cond.fieldLink "AnimationController$Blend" (15 : Nat) "AnimationController$Blend" "weights" "[I") ∈ lw_all := lw_g (lw_at lw_m2 204 rfl) rfl
theorem q554 : (Jvm.Cond.fieldLink "AnimationController$Blend" (3 : Nat) "AnimationController$Blend" "this$0" "LAnimationController;") ∈ lw_all := lw_g (lw_at lw_m2 207 rfl) rfl
theorem q555 : (Jvm.Cond.laysFinal "AnimationController$Blend" "AnimationController$Blend" "weights" "[I") ∈ lw_all := lw_g (lw_at lw_m2 208 rfl) rfl
theorem q556 : (Jvm.Cond.soleField "AnimationController$Blend" "weights") ∈ lw_all := lw_g (lw_at lw_m2 209 rfl) rfl
theorem q557 : (Jvm.Cond.laysFinal "AnimationController$Blend" "AnimationController$Blend" "this$0" "LAnimationController;") ∈ lw_all := lw_g (lw_at lw_m2 210 rfl) rfl
theorem q558 : (Jvm.Cond.soleField "AnimationController$Blend" "this$0") ∈ lw_all := lw_g (lw_at lw_m2 211 rfl) rfl
theorem q559 : (Jvm.Cond.superclass "AnimationController$Blend" "java/lang/Object") ∈ lw_all := lw_g (lw_at lw_m2 212 rfl) rfl
theorem q615 : (Jvm.Cond.fieldLinkNest "AnimationController$Blend" (19 : Nat) "AnimationController" "clips" "Ljava/util/ArrayList;" "AnimationController") ∈ lw_tbl := lw_at lw_m3 28 rfl
theorem q853 : (Jvm.Cond.instanceMethod ({ cls := "AnimationController$Blend", name := "clear", desc := "()V" } : Jvm.MethodName)) ∈ lw_all := lw_g (lw_at lw_m4 26 rfl) rfl
theorem q854 : (Jvm.Cond.selects "AnimationController$Blend" ({ cls := "AnimationController$Blend", name := "clear", desc := "()V" } : Jvm.MethodName) ({ cls := "AnimationController$Blend", name := "clear", desc := "()V" } : Jvm.MethodName)) ∈ lw_all := lw_g (lw_at lw_m4 27 rfl) rfl
theorem q855 : (Jvm.Cond.code ({ cls := "AnimationController$Blend", name := "clear", desc := "()V" } : Jvm.MethodName) prog_2_method_2_code (2 : Nat) (Option.none : Option Jvm.ClassFile.FieldType)) ∈ lw_all := lw_g (lw_at lw_m4 28 rfl) rfl
theorem q863 : (Jvm.Cond.instanceMethod ({ cls := "AnimationController$Blend", name := "add", desc := "(II)V" } : Jvm.MethodName)) ∈ lw_all := lw_g (lw_at lw_m4 36 rfl) rfl
theorem q864 : (Jvm.Cond.selects "AnimationController$Blend" ({ cls := "AnimationController$Blend", name := "add", desc := "(II)V" } : Jvm.MethodName) ({ cls := "AnimationController$Blend", name := "add", desc := "(II)V" } : Jvm.MethodName)) ∈ lw_all := lw_g (lw_at lw_m4 37 rfl) rfl
theorem q865 : (Jvm.Cond.code ({ cls := "AnimationController$Blend", name := "add", desc := "(II)V" } : Jvm.MethodName) prog_2_method_3_code (3 : Nat) (Option.none : Option Jvm.ClassFile.FieldType)) ∈ lw_all := lw_g (lw_at lw_m4 38 rfl) rfl
theorem q1115 : (Jvm.Cond.selects "AnimationController$Blend" ({ cls := "java/lang/Object", name := "getClass", desc := "()Ljava/lang/Class;" } : Jvm.MethodName) ({ cls := "java/lang/Object", name := "getClass", desc := "()Ljava/lang/Class;" } : Jvm.MethodName)) ∈ lw_all := lw_g (lw_at lw_m5 48 rfl) rfl
theorem q1275 : (Jvm.Cond.selects "AnimationController$Blend" ({ cls := "java/lang/Object", name := "hashCode", desc := "()I" } : Jvm.MethodName) ({ cls := "java/lang/Object", name := "hashCode", desc := "()I" } : Jvm.MethodName)) ∈ lw_all := lw_g (lw_at lw_m5 208 rfl) rfl
theorem q1372 : (Jvm.Cond.selects "AnimationController$Blend" ({ cls := "java/lang/Object", name := "equals", desc := "(Ljava/lang/Object;)Z" } : Jvm.MethodName) ({ cls := "java/lang/Object", name := "equals", desc := "(Ljava/lang/Object;)Z" } : Jvm.MethodName)) ∈ lw_all := lw_g (lw_at lw_m6 65 rfl) rfl
theorem q2027 : (Jvm.Cond.fieldLinkNest "AnimationController$Blend" (35 : Nat) "AnimationController$Clip" "length" "I" "AnimationController") ∈ lw_tbl := lw_at lw_m9 0 rfl
theorem q2413 : (Jvm.Cond.instanceMethod ({ cls := "AnimationController$Blend", name := "length", desc := "()J" } : Jvm.MethodName)) ∈ lw_all := lw_g (lw_at lw_m10 146 rfl) rfl
theorem q2414 : (Jvm.Cond.selects "AnimationController$Blend" ({ cls := "AnimationController$Blend", name := "length", desc := "()J" } : Jvm.MethodName) ({ cls := "AnimationController$Blend", name := "length", desc := "()J" } : Jvm.MethodName)) ∈ lw_all := lw_g (lw_at lw_m10 147 rfl) rfl
theorem q2415 : (Jvm.Cond.code ({ cls := "AnimationController$Blend", name := "length", desc := "()J" } : Jvm.MethodName) prog_2_method_4_code (4 : Nat) (Option.some Jvm.ClassFile.FieldType.long)) ∈ lw_all := lw_g (lw_at lw_m10 148 rfl) rfl
theorem q2416 : (Jvm.Cond.methodLink "AnimationController$Blend" (23 : Nat) ({ cls := "java/util/ArrayList", name := "size", desc := "()I" } : Jvm.MethodName)) ∈ lw_all := lw_g (lw_at lw_m10 149 rfl) rfl
theorem q2417 : (Jvm.Cond.methodLink "AnimationController$Blend" (29 : Nat) ({ cls := "java/util/ArrayList", name := "get", desc := "(I)Ljava/lang/Object;" } : Jvm.MethodName)) ∈ lw_all := lw_g (lw_at lw_m10 150 rfl) rfl
theorem q2418 : (Jvm.Cond.classLink "AnimationController$Blend" (33 : Nat) "AnimationController$Clip") ∈ lw_all := lw_g (lw_at lw_m10 151 rfl) rfl
theorem q3298 : (Jvm.Cond.castable "AnimationController$Blend" "java/lang/Object") ∈ lw_tbl := lw_at lw_m14 71 rfl
theorem in_X3 : ∀ w ∈ wsX30, w ∈ lw_all := lw_in wsX30 [555, 557] (by decide +kernel) (by decide +kernel)

/-! AnimationController$Parameter -/
set_option maxRecDepth 100000
def RX5 : String := "AnimationController$Parameter"
def TX5 : u_T := fun k => match k with
  | 0 => ("AnimationController$Parameter", "kind", "I", true)
  | _ => ("AnimationController$Parameter", "value", "I", false)
def tyX5 : Nat → FieldType := fun k => match k with
  | 0 => .int
  | _ => .int
abbrev wsX50 : List Cond := u_ws RX5 TX5 2
theorem nmX5 : ∀ a, a < 2 → ∀ b, b < 2 → a ≠ b → (TX5 a).2.1 ≠ (TX5 b).2.1 := by decide +kernel
theorem tyX5_ok : ∀ k, k < 2 → parseFieldDescriptor (TX5 k).2.2.1 = some (tyX5 k) := by decide +kernel
abbrev cX5_init : ByteArray := prog_11_method_1_code
def yX5_init : MethodName := ⟨RX5, "<init>", "(I)V"⟩
def dkwX5_init_0 : List UInt8 := [42, 183, 0, 3, 42, 27, 181, 0, 9, 177]
abbrev dktX5_init_0 : List UInt8 := dkwX5_init_0 ++ []
theorem dksX5_init_0 : cX5_init.data.toList.drop 0 = dktX5_init_0 := by decide +kernel
theorem dX5_init_0 : decode cX5_init 0 = .ok (.aload_n 0, 1) := dk_42 (dk_at dksX5_init_0 0 rfl rfl)
theorem dX5_init_1 : decode cX5_init 1 = .ok (.invokespecial 3, 3) := dk_183 0 3 (dk_at dksX5_init_0 1 rfl rfl)
theorem dX5_init_4 : decode cX5_init 4 = .ok (.aload_n 0, 1) := dk_42 (dk_at dksX5_init_0 4 rfl rfl)
theorem dX5_init_5 : decode cX5_init 5 = .ok (.iload_n 1, 1) := dk_27 (dk_at dksX5_init_0 5 rfl rfl)
theorem dX5_init_6 : decode cX5_init 6 = .ok (.putfield 9, 3) := dk_181 0 9 (dk_at dksX5_init_0 6 rfl rfl)
theorem dX5_init_9 : decode cX5_init 9 = .ok (.return_, 1) := dk_177 (dk_at dksX5_init_0 9 rfl rfl)
abbrev cX5_takes : ByteArray := prog_11_method_2_code
def yX5_takes : MethodName := ⟨RX5, "takes", "(I)Z"⟩
def dkwX5_takes_1 : List UInt8 := [10, 184, 0, 19, 172]
abbrev dktX5_takes_1 : List UInt8 := dkwX5_takes_1 ++ []
def dkwX5_takes_0 : List UInt8 := [42, 180, 0, 9, 154, 0, 17, 27, 133, 20, 0, 15, 20, 0, 17, 184, 0, 19, 167, 0, 10, 27, 133, 9]
abbrev dktX5_takes_0 : List UInt8 := dkwX5_takes_0 ++ dktX5_takes_1
theorem dksX5_takes_0 : cX5_takes.data.toList.drop 0 = dktX5_takes_0 := by decide +kernel
theorem dksX5_takes_1 : cX5_takes.data.toList.drop 24 = dktX5_takes_1 := dk_seg dksX5_takes_0 24 rfl rfl
theorem dX5_takes_0 : decode cX5_takes 0 = .ok (.aload_n 0, 1) := dk_42 (dk_at dksX5_takes_0 0 rfl rfl)
theorem dX5_takes_1 : decode cX5_takes 1 = .ok (.getfield 9, 3) := dk_180 0 9 (dk_at dksX5_takes_0 1 rfl rfl)
theorem dX5_takes_4 : decode cX5_takes 4 = .ok (.ifCond .ne 17, 3) := dk_154 0 17 (dk_at dksX5_takes_0 4 rfl rfl)
theorem dX5_takes_7 : decode cX5_takes 7 = .ok (.iload_n 1, 1) := dk_27 (dk_at dksX5_takes_0 7 rfl rfl)
theorem dX5_takes_8 : decode cX5_takes 8 = .ok (.i2l, 1) := dk_133 (dk_at dksX5_takes_0 8 rfl rfl)
theorem dX5_takes_9 : decode cX5_takes 9 = .ok (.ldc2_w 15, 3) := dk_20 0 15 (dk_at dksX5_takes_0 9 rfl rfl)
theorem dX5_takes_12 : decode cX5_takes 12 = .ok (.ldc2_w 17, 3) := dk_20 0 17 (dk_at dksX5_takes_0 12 rfl rfl)
theorem dX5_takes_15 : decode cX5_takes 15 = .ok (.invokestatic 19, 3) := dk_184 0 19 (dk_at dksX5_takes_0 15 rfl rfl)
theorem dX5_takes_18 : decode cX5_takes 18 = .ok (.goto 10, 3) := dk_167 0 10 (dk_at dksX5_takes_0 18 rfl rfl)
theorem dX5_takes_21 : decode cX5_takes 21 = .ok (.iload_n 1, 1) := dk_27 (dk_at dksX5_takes_0 21 rfl rfl)
theorem dX5_takes_22 : decode cX5_takes 22 = .ok (.i2l, 1) := dk_133 (dk_at dksX5_takes_0 22 rfl rfl)
theorem dX5_takes_23 : decode cX5_takes 23 = .ok (.lconst 0, 1) := dk_9 (dk_at dksX5_takes_0 23 rfl rfl)
theorem dX5_takes_24 : decode cX5_takes 24 = .ok (.lconst 1, 1) := dk_10 (dk_at dksX5_takes_1 0 rfl rfl)
theorem dX5_takes_25 : decode cX5_takes 25 = .ok (.invokestatic 19, 3) := dk_184 0 19 (dk_at dksX5_takes_1 1 rfl rfl)
theorem dX5_takes_28 : decode cX5_takes 28 = .ok (.ireturn, 1) := dk_172 (dk_at dksX5_takes_1 4 rfl rfl)
theorem q135 : (Jvm.Cond.initialized "AnimationController$Parameter") ∈ lw_all := lw_g (lw_at lw_m1 28 rfl) rfl
theorem q1123 : (Jvm.Cond.selects "AnimationController$Parameter" ({ cls := "java/lang/Object", name := "getClass", desc := "()Ljava/lang/Class;" } : Jvm.MethodName) ({ cls := "java/lang/Object", name := "getClass", desc := "()Ljava/lang/Class;" } : Jvm.MethodName)) ∈ lw_all := lw_g (lw_at lw_m5 56 rfl) rfl
theorem q1283 : (Jvm.Cond.selects "AnimationController$Parameter" ({ cls := "java/lang/Object", name := "hashCode", desc := "()I" } : Jvm.MethodName) ({ cls := "java/lang/Object", name := "hashCode", desc := "()I" } : Jvm.MethodName)) ∈ lw_all := lw_g (lw_at lw_m5 216 rfl) rfl
theorem q1380 : (Jvm.Cond.selects "AnimationController$Parameter" ({ cls := "java/lang/Object", name := "equals", desc := "(Ljava/lang/Object;)Z" } : Jvm.MethodName) ({ cls := "java/lang/Object", name := "equals", desc := "(Ljava/lang/Object;)Z" } : Jvm.MethodName)) ∈ lw_all := lw_g (lw_at lw_m6 73 rfl) rfl
theorem q1942 : (Jvm.Cond.instantiable "AnimationController$Parameter" (2 : Nat)) ∈ lw_all := lw_g (lw_at lw_m8 155 rfl) rfl
theorem q1944 : (Jvm.Cond.instanceMethod ({ cls := "AnimationController$Parameter", name := "<init>", desc := "(I)V" } : Jvm.MethodName)) ∈ lw_all := lw_g (lw_at lw_m8 157 rfl) rfl
theorem q1945 : (Jvm.Cond.code ({ cls := "AnimationController$Parameter", name := "<init>", desc := "(I)V" } : Jvm.MethodName) prog_11_method_1_code (2 : Nat) (Option.none : Option Jvm.ClassFile.FieldType)) ∈ lw_all := lw_g (lw_at lw_m8 158 rfl) rfl
theorem q1946 : (Jvm.Cond.methodLink "AnimationController$Parameter" (3 : Nat) ({ cls := "java/lang/Object", name := "<init>", desc := "()V" } : Jvm.MethodName)) ∈ lw_all := lw_g (lw_at lw_m8 159 rfl) rfl
theorem q1947 : (Jvm.Cond.fieldLink "AnimationController$Parameter" (9 : Nat) "AnimationController$Parameter" "kind" "I") ∈ lw_all := lw_g (lw_at lw_m8 160 rfl) rfl
theorem q1955 : (Jvm.Cond.laysFinal "AnimationController$Parameter" "AnimationController$Parameter" "kind" "I") ∈ lw_all := lw_g (lw_at lw_m8 168 rfl) rfl
theorem q1956 : (Jvm.Cond.soleField "AnimationController$Parameter" "kind") ∈ lw_all := lw_g (lw_at lw_m8 169 rfl) rfl
theorem q1957 : (Jvm.Cond.lays "AnimationController$Parameter" "AnimationController$Parameter" "value" "I") ∈ lw_all := lw_g (lw_at lw_m8 170 rfl) rfl
theorem q1958 : (Jvm.Cond.soleField "AnimationController$Parameter" "value") ∈ lw_all := lw_g (lw_at lw_m8 171 rfl) rfl
theorem q1959 : (Jvm.Cond.superclass "AnimationController$Parameter" "java/lang/Object") ∈ lw_all := lw_g (lw_at lw_m8 172 rfl) rfl
theorem q1994 : (Jvm.Cond.instanceMethod ({ cls := "AnimationController$Parameter", name := "takes", desc := "(I)Z" } : Jvm.MethodName)) ∈ lw_all := lw_g (lw_at lw_m8 207 rfl) rfl
theorem q1995 : (Jvm.Cond.selects "AnimationController$Parameter" ({ cls := "AnimationController$Parameter", name := "takes", desc := "(I)Z" } : Jvm.MethodName) ({ cls := "AnimationController$Parameter", name := "takes", desc := "(I)Z" } : Jvm.MethodName)) ∈ lw_all := lw_g (lw_at lw_m8 208 rfl) rfl
theorem q1996 : (Jvm.Cond.code ({ cls := "AnimationController$Parameter", name := "takes", desc := "(I)Z" } : Jvm.MethodName) prog_11_method_2_code (2 : Nat) (Option.some Jvm.ClassFile.FieldType.boolean)) ∈ lw_all := lw_g (lw_at lw_m8 209 rfl) rfl
theorem q1997 : (Jvm.Cond.constantLong "AnimationController$Parameter" (15 : Nat) (-100 : Int64)) ∈ lw_all := lw_g (lw_at lw_m8 210 rfl) rfl
theorem q1998 : (Jvm.Cond.constantLong "AnimationController$Parameter" (17 : Nat) (100 : Int64)) ∈ lw_all := lw_g (lw_at lw_m8 211 rfl) rfl
theorem q1999 : (Jvm.Cond.methodLinkNest "AnimationController$Parameter" (19 : Nat) ({ cls := "AnimationController", name := "in", desc := "(JJJ)Z" } : Jvm.MethodName) "AnimationController") ∈ lw_tbl := lw_at lw_m8 212 rfl
theorem q3302 : (Jvm.Cond.castable "AnimationController$Parameter" "java/lang/Object") ∈ lw_tbl := lw_at lw_m14 75 rfl
theorem in_X5 : ∀ w ∈ wsX50, w ∈ lw_all := lw_in wsX50 [1955, 1957] (by decide +kernel) (by decide +kernel)

/-! AnimationController$Clip -/
set_option maxRecDepth 100000
def RX6 : String := "AnimationController$Clip"
def TX6 : u_T := fun k => match k with
  | 0 => ("AnimationController$Clip", "number", "I", true)
  | 1 => ("AnimationController$Clip", "length", "I", true)
  | _ => ("AnimationController$Clip", "events", "Ljava/util/ArrayList;", true)
def tyX6 : Nat → FieldType := fun k => match k with
  | 0 => .int
  | 1 => .int
  | _ => .object "java/util/ArrayList"
abbrev wsX60 : List Cond := u_ws RX6 TX6 3
theorem nmX6 : ∀ a, a < 3 → ∀ b, b < 3 → a ≠ b → (TX6 a).2.1 ≠ (TX6 b).2.1 := by decide +kernel
theorem tyX6_ok : ∀ k, k < 3 → parseFieldDescriptor (TX6 k).2.2.1 = some (tyX6 k) := by decide +kernel
abbrev cX6_timeAt : ByteArray := prog_3_method_3_code
def yX6_timeAt : MethodName := ⟨RX6, "timeAt", "(I)I"⟩
def dkwX6_timeAt_0 : List UInt8 := [42, 180, 0, 24, 4, 100, 27, 133, 42, 180, 0, 24, 133, 20, 0, 44, 184, 0, 46, 184, 0, 50, 172]
abbrev dktX6_timeAt_0 : List UInt8 := dkwX6_timeAt_0 ++ []
theorem dksX6_timeAt_0 : cX6_timeAt.data.toList.drop 0 = dktX6_timeAt_0 := by decide +kernel
theorem dX6_timeAt_0 : decode cX6_timeAt 0 = .ok (.aload_n 0, 1) := dk_42 (dk_at dksX6_timeAt_0 0 rfl rfl)
theorem dX6_timeAt_1 : decode cX6_timeAt 1 = .ok (.getfield 24, 3) := dk_180 0 24 (dk_at dksX6_timeAt_0 1 rfl rfl)
theorem dX6_timeAt_4 : decode cX6_timeAt 4 = .ok (.iconst 1, 1) := dk_4 (dk_at dksX6_timeAt_0 4 rfl rfl)
theorem dX6_timeAt_5 : decode cX6_timeAt 5 = .ok (.isub, 1) := dk_100 (dk_at dksX6_timeAt_0 5 rfl rfl)
theorem dX6_timeAt_6 : decode cX6_timeAt 6 = .ok (.iload_n 1, 1) := dk_27 (dk_at dksX6_timeAt_0 6 rfl rfl)
theorem dX6_timeAt_7 : decode cX6_timeAt 7 = .ok (.i2l, 1) := dk_133 (dk_at dksX6_timeAt_0 7 rfl rfl)
theorem dX6_timeAt_8 : decode cX6_timeAt 8 = .ok (.aload_n 0, 1) := dk_42 (dk_at dksX6_timeAt_0 8 rfl rfl)
theorem dX6_timeAt_9 : decode cX6_timeAt 9 = .ok (.getfield 24, 3) := dk_180 0 24 (dk_at dksX6_timeAt_0 9 rfl rfl)
theorem dX6_timeAt_12 : decode cX6_timeAt 12 = .ok (.i2l, 1) := dk_133 (dk_at dksX6_timeAt_0 12 rfl rfl)
theorem dX6_timeAt_13 : decode cX6_timeAt 13 = .ok (.ldc2_w 44, 3) := dk_20 0 44 (dk_at dksX6_timeAt_0 13 rfl rfl)
theorem dX6_timeAt_16 : decode cX6_timeAt 16 = .ok (.invokestatic 46, 3) := dk_184 0 46 (dk_at dksX6_timeAt_0 16 rfl rfl)
theorem dX6_timeAt_19 : decode cX6_timeAt 19 = .ok (.invokestatic 50, 3) := dk_184 0 50 (dk_at dksX6_timeAt_0 19 rfl rfl)
theorem dX6_timeAt_22 : decode cX6_timeAt 22 = .ok (.ireturn, 1) := dk_172 (dk_at dksX6_timeAt_0 22 rfl rfl)
abbrev cX6_init : ByteArray := prog_3_method_1_code
def yX6_init : MethodName := ⟨RX6, "<init>", "(II)V"⟩
def dkwX6_init_1 : List UInt8 := [181, 0, 24, 177]
abbrev dktX6_init_1 : List UInt8 := dkwX6_init_1 ++ []
def dkwX6_init_0 : List UInt8 := [42, 183, 0, 3, 42, 187, 0, 9, 89, 8, 183, 0, 11, 181, 0, 14, 42, 27, 181, 0, 20, 42, 28]
abbrev dktX6_init_0 : List UInt8 := dkwX6_init_0 ++ dktX6_init_1
theorem dksX6_init_0 : cX6_init.data.toList.drop 0 = dktX6_init_0 := by decide +kernel
theorem dksX6_init_1 : cX6_init.data.toList.drop 23 = dktX6_init_1 := dk_seg dksX6_init_0 23 rfl rfl
theorem dX6_init_0 : decode cX6_init 0 = .ok (.aload_n 0, 1) := dk_42 (dk_at dksX6_init_0 0 rfl rfl)
theorem dX6_init_1 : decode cX6_init 1 = .ok (.invokespecial 3, 3) := dk_183 0 3 (dk_at dksX6_init_0 1 rfl rfl)
theorem dX6_init_4 : decode cX6_init 4 = .ok (.aload_n 0, 1) := dk_42 (dk_at dksX6_init_0 4 rfl rfl)
theorem dX6_init_5 : decode cX6_init 5 = .ok (.new 9, 3) := dk_187 0 9 (dk_at dksX6_init_0 5 rfl rfl)
theorem dX6_init_8 : decode cX6_init 8 = .ok (.dup, 1) := dk_89 (dk_at dksX6_init_0 8 rfl rfl)
theorem dX6_init_9 : decode cX6_init 9 = .ok (.iconst 5, 1) := dk_8 (dk_at dksX6_init_0 9 rfl rfl)
theorem dX6_init_10 : decode cX6_init 10 = .ok (.invokespecial 11, 3) := dk_183 0 11 (dk_at dksX6_init_0 10 rfl rfl)
theorem dX6_init_13 : decode cX6_init 13 = .ok (.putfield 14, 3) := dk_181 0 14 (dk_at dksX6_init_0 13 rfl rfl)
theorem dX6_init_16 : decode cX6_init 16 = .ok (.aload_n 0, 1) := dk_42 (dk_at dksX6_init_0 16 rfl rfl)
theorem dX6_init_17 : decode cX6_init 17 = .ok (.iload_n 1, 1) := dk_27 (dk_at dksX6_init_0 17 rfl rfl)
theorem dX6_init_18 : decode cX6_init 18 = .ok (.putfield 20, 3) := dk_181 0 20 (dk_at dksX6_init_0 18 rfl rfl)
theorem dX6_init_21 : decode cX6_init 21 = .ok (.aload_n 0, 1) := dk_42 (dk_at dksX6_init_0 21 rfl rfl)
theorem dX6_init_22 : decode cX6_init 22 = .ok (.iload_n 2, 1) := dk_28 (dk_at dksX6_init_0 22 rfl rfl)
theorem dX6_init_23 : decode cX6_init 23 = .ok (.putfield 24, 3) := dk_181 0 24 (dk_at dksX6_init_1 0 rfl rfl)
theorem dX6_init_26 : decode cX6_init 26 = .ok (.return_, 1) := dk_177 (dk_at dksX6_init_1 3 rfl rfl)
abbrev cX6_add : ByteArray := prog_3_method_2_code
def yX6_add : MethodName := ⟨RX6, "add", "(LAnimationController$Event;)V"⟩
def dkwX6_add_2 : List UInt8 := [43, 182, 0, 40, 177]
abbrev dktX6_add_2 : List UInt8 := dkwX6_add_2 ++ []
def dkwX6_add_1 : List UInt8 := [192, 0, 35, 180, 0, 37, 43, 180, 0, 37, 164, 0, 9, 132, 2, 255, 167, 255, 226, 42, 180, 0, 14, 28]
abbrev dktX6_add_1 : List UInt8 := dkwX6_add_1 ++ dktX6_add_2
def dkwX6_add_0 : List UInt8 := [42, 180, 0, 14, 182, 0, 27, 61, 28, 158, 0, 32, 42, 180, 0, 14, 28, 4, 100, 182, 0, 31]
abbrev dktX6_add_0 : List UInt8 := dkwX6_add_0 ++ dktX6_add_1
theorem dksX6_add_0 : cX6_add.data.toList.drop 0 = dktX6_add_0 := by decide +kernel
theorem dksX6_add_1 : cX6_add.data.toList.drop 22 = dktX6_add_1 := dk_seg dksX6_add_0 22 rfl rfl
theorem dksX6_add_2 : cX6_add.data.toList.drop 46 = dktX6_add_2 := dk_seg dksX6_add_1 24 rfl rfl
theorem dX6_add_0 : decode cX6_add 0 = .ok (.aload_n 0, 1) := dk_42 (dk_at dksX6_add_0 0 rfl rfl)
theorem dX6_add_1 : decode cX6_add 1 = .ok (.getfield 14, 3) := dk_180 0 14 (dk_at dksX6_add_0 1 rfl rfl)
theorem dX6_add_4 : decode cX6_add 4 = .ok (.invokevirtual 27, 3) := dk_182 0 27 (dk_at dksX6_add_0 4 rfl rfl)
theorem dX6_add_7 : decode cX6_add 7 = .ok (.istore_n 2, 1) := dk_61 (dk_at dksX6_add_0 7 rfl rfl)
theorem dX6_add_8 : decode cX6_add 8 = .ok (.iload_n 2, 1) := dk_28 (dk_at dksX6_add_0 8 rfl rfl)
theorem dX6_add_9 : decode cX6_add 9 = .ok (.ifCond .le 32, 3) := dk_158 0 32 (dk_at dksX6_add_0 9 rfl rfl)
theorem dX6_add_12 : decode cX6_add 12 = .ok (.aload_n 0, 1) := dk_42 (dk_at dksX6_add_0 12 rfl rfl)
theorem dX6_add_13 : decode cX6_add 13 = .ok (.getfield 14, 3) := dk_180 0 14 (dk_at dksX6_add_0 13 rfl rfl)
theorem dX6_add_16 : decode cX6_add 16 = .ok (.iload_n 2, 1) := dk_28 (dk_at dksX6_add_0 16 rfl rfl)
theorem dX6_add_17 : decode cX6_add 17 = .ok (.iconst 1, 1) := dk_4 (dk_at dksX6_add_0 17 rfl rfl)
theorem dX6_add_18 : decode cX6_add 18 = .ok (.isub, 1) := dk_100 (dk_at dksX6_add_0 18 rfl rfl)
theorem dX6_add_19 : decode cX6_add 19 = .ok (.invokevirtual 31, 3) := dk_182 0 31 (dk_at dksX6_add_0 19 rfl rfl)
theorem dX6_add_22 : decode cX6_add 22 = .ok (.checkcast 35, 3) := dk_192 0 35 (dk_at dksX6_add_1 0 rfl rfl)
theorem dX6_add_25 : decode cX6_add 25 = .ok (.getfield 37, 3) := dk_180 0 37 (dk_at dksX6_add_1 3 rfl rfl)
theorem dX6_add_28 : decode cX6_add 28 = .ok (.aload_n 1, 1) := dk_43 (dk_at dksX6_add_1 6 rfl rfl)
theorem dX6_add_29 : decode cX6_add 29 = .ok (.getfield 37, 3) := dk_180 0 37 (dk_at dksX6_add_1 7 rfl rfl)
theorem dX6_add_32 : decode cX6_add 32 = .ok (.if_icmp .le 9, 3) := dk_164 0 9 (dk_at dksX6_add_1 10 rfl rfl)
theorem dX6_add_35 : decode cX6_add 35 = .ok (.iinc 2 (-1), 3) := dk_132 2 255 (dk_at dksX6_add_1 13 rfl rfl)
theorem dX6_add_38 : decode cX6_add 38 = .ok (.goto (-30), 3) := dk_167 255 226 (dk_at dksX6_add_1 16 rfl rfl)
theorem dX6_add_41 : decode cX6_add 41 = .ok (.aload_n 0, 1) := dk_42 (dk_at dksX6_add_1 19 rfl rfl)
theorem dX6_add_42 : decode cX6_add 42 = .ok (.getfield 14, 3) := dk_180 0 14 (dk_at dksX6_add_1 20 rfl rfl)
theorem dX6_add_45 : decode cX6_add 45 = .ok (.iload_n 2, 1) := dk_28 (dk_at dksX6_add_1 23 rfl rfl)
theorem dX6_add_46 : decode cX6_add 46 = .ok (.aload_n 1, 1) := dk_43 (dk_at dksX6_add_2 0 rfl rfl)
theorem dX6_add_47 : decode cX6_add 47 = .ok (.invokevirtual 40, 3) := dk_182 0 40 (dk_at dksX6_add_2 1 rfl rfl)
theorem dX6_add_50 : decode cX6_add 50 = .ok (.return_, 1) := dk_177 (dk_at dksX6_add_2 4 rfl rfl)
theorem q139 : (Jvm.Cond.initialized "AnimationController$Clip") ∈ lw_all := lw_g (lw_at lw_m1 32 rfl) rfl
theorem q874 : (Jvm.Cond.instanceMethod ({ cls := "AnimationController$Clip", name := "timeAt", desc := "(I)I" } : Jvm.MethodName)) ∈ lw_all := lw_g (lw_at lw_m4 47 rfl) rfl
theorem q875 : (Jvm.Cond.selects "AnimationController$Clip" ({ cls := "AnimationController$Clip", name := "timeAt", desc := "(I)I" } : Jvm.MethodName) ({ cls := "AnimationController$Clip", name := "timeAt", desc := "(I)I" } : Jvm.MethodName)) ∈ lw_all := lw_g (lw_at lw_m4 48 rfl) rfl
theorem q876 : (Jvm.Cond.code ({ cls := "AnimationController$Clip", name := "timeAt", desc := "(I)I" } : Jvm.MethodName) prog_3_method_3_code (2 : Nat) (Option.some Jvm.ClassFile.FieldType.int)) ∈ lw_all := lw_g (lw_at lw_m4 49 rfl) rfl
theorem q877 : (Jvm.Cond.constantLong "AnimationController$Clip" (44 : Nat) (1000000 : Int64)) ∈ lw_all := lw_g (lw_at lw_m4 50 rfl) rfl
theorem q878 : (Jvm.Cond.methodLinkNest "AnimationController$Clip" (46 : Nat) ({ cls := "AnimationController", name := "share", desc := "(JJJ)I" } : Jvm.MethodName) "AnimationController") ∈ lw_tbl := lw_at lw_m4 51 rfl
theorem q879 : (Jvm.Cond.methodLink "AnimationController$Clip" (50 : Nat) ({ cls := "java/lang/Math", name := "min", desc := "(II)I" } : Jvm.MethodName)) ∈ lw_all := lw_g (lw_at lw_m4 52 rfl) rfl
theorem q1116 : (Jvm.Cond.selects "AnimationController$Clip" ({ cls := "java/lang/Object", name := "getClass", desc := "()Ljava/lang/Class;" } : Jvm.MethodName) ({ cls := "java/lang/Object", name := "getClass", desc := "()Ljava/lang/Class;" } : Jvm.MethodName)) ∈ lw_all := lw_g (lw_at lw_m5 49 rfl) rfl
theorem q1276 : (Jvm.Cond.selects "AnimationController$Clip" ({ cls := "java/lang/Object", name := "hashCode", desc := "()I" } : Jvm.MethodName) ({ cls := "java/lang/Object", name := "hashCode", desc := "()I" } : Jvm.MethodName)) ∈ lw_all := lw_g (lw_at lw_m5 209 rfl) rfl
theorem q1373 : (Jvm.Cond.selects "AnimationController$Clip" ({ cls := "java/lang/Object", name := "equals", desc := "(Ljava/lang/Object;)Z" } : Jvm.MethodName) ({ cls := "java/lang/Object", name := "equals", desc := "(Ljava/lang/Object;)Z" } : Jvm.MethodName)) ∈ lw_all := lw_g (lw_at lw_m6 66 rfl) rfl
theorem q2016 : (Jvm.Cond.instantiable "AnimationController$Clip" (3 : Nat)) ∈ lw_all := lw_g (lw_at lw_m8 229 rfl) rfl
theorem q2018 : (Jvm.Cond.instanceMethod ({ cls := "AnimationController$Clip", name := "<init>", desc := "(II)V" } : Jvm.MethodName)) ∈ lw_all := lw_g (lw_at lw_m8 231 rfl) rfl
theorem q2019 : (Jvm.Cond.code ({ cls := "AnimationController$Clip", name := "<init>", desc := "(II)V" } : Jvm.MethodName) prog_3_method_1_code (3 : Nat) (Option.none : Option Jvm.ClassFile.FieldType)) ∈ lw_all := lw_g (lw_at lw_m8 232 rfl) rfl
theorem q2020 : (Jvm.Cond.methodLink "AnimationController$Clip" (3 : Nat) ({ cls := "java/lang/Object", name := "<init>", desc := "()V" } : Jvm.MethodName)) ∈ lw_all := lw_g (lw_at lw_m8 233 rfl) rfl
theorem q2021 : (Jvm.Cond.classLink "AnimationController$Clip" (9 : Nat) "java/util/ArrayList") ∈ lw_all := lw_g (lw_at lw_m8 234 rfl) rfl
theorem q2022 : (Jvm.Cond.methodLink "AnimationController$Clip" (11 : Nat) ({ cls := "java/util/ArrayList", name := "<init>", desc := "(I)V" } : Jvm.MethodName)) ∈ lw_all := lw_g (lw_at lw_m8 235 rfl) rfl
theorem q2023 : (Jvm.Cond.fieldLink "AnimationController$Clip" (20 : Nat) "AnimationController$Clip" "number" "I") ∈ lw_all := lw_g (lw_at lw_m8 236 rfl) rfl
theorem q2026 : (Jvm.Cond.fieldLink "AnimationController$Clip" (24 : Nat) "AnimationController$Clip" "length" "I") ∈ lw_all := lw_g (lw_at lw_m8 239 rfl) rfl
theorem q2030 : (Jvm.Cond.fieldLink "AnimationController$Clip" (14 : Nat) "AnimationController$Clip" "events" "Ljava/util/ArrayList;") ∈ lw_all := lw_g (lw_at lw_m9 3 rfl) rfl
theorem q2033 : (Jvm.Cond.laysFinal "AnimationController$Clip" "AnimationController$Clip" "number" "I") ∈ lw_all := lw_g (lw_at lw_m9 6 rfl) rfl
theorem q2034 : (Jvm.Cond.soleField "AnimationController$Clip" "number") ∈ lw_all := lw_g (lw_at lw_m9 7 rfl) rfl
theorem q2035 : (Jvm.Cond.laysFinal "AnimationController$Clip" "AnimationController$Clip" "length" "I") ∈ lw_all := lw_g (lw_at lw_m9 8 rfl) rfl
theorem q2036 : (Jvm.Cond.soleField "AnimationController$Clip" "length") ∈ lw_all := lw_g (lw_at lw_m9 9 rfl) rfl
theorem q2037 : (Jvm.Cond.laysFinal "AnimationController$Clip" "AnimationController$Clip" "events" "Ljava/util/ArrayList;") ∈ lw_all := lw_g (lw_at lw_m9 10 rfl) rfl
theorem q2038 : (Jvm.Cond.soleField "AnimationController$Clip" "events") ∈ lw_all := lw_g (lw_at lw_m9 11 rfl) rfl
theorem q2039 : (Jvm.Cond.superclass "AnimationController$Clip" "java/lang/Object") ∈ lw_all := lw_g (lw_at lw_m9 12 rfl) rfl
theorem q2059 : (Jvm.Cond.fieldLinkNest "AnimationController$Clip" (37 : Nat) "AnimationController$Event" "time" "I" "AnimationController") ∈ lw_tbl := lw_at lw_m9 32 rfl
theorem q2069 : (Jvm.Cond.instanceMethod ({ cls := "AnimationController$Clip", name := "add", desc := "(LAnimationController$Event;)V" } : Jvm.MethodName)) ∈ lw_all := lw_g (lw_at lw_m9 42 rfl) rfl
theorem q2070 : (Jvm.Cond.selects "AnimationController$Clip" ({ cls := "AnimationController$Clip", name := "add", desc := "(LAnimationController$Event;)V" } : Jvm.MethodName) ({ cls := "AnimationController$Clip", name := "add", desc := "(LAnimationController$Event;)V" } : Jvm.MethodName)) ∈ lw_all := lw_g (lw_at lw_m9 43 rfl) rfl
theorem q2071 : (Jvm.Cond.code ({ cls := "AnimationController$Clip", name := "add", desc := "(LAnimationController$Event;)V" } : Jvm.MethodName) prog_3_method_2_code (3 : Nat) (Option.none : Option Jvm.ClassFile.FieldType)) ∈ lw_all := lw_g (lw_at lw_m9 44 rfl) rfl
theorem q2072 : (Jvm.Cond.methodLink "AnimationController$Clip" (27 : Nat) ({ cls := "java/util/ArrayList", name := "size", desc := "()I" } : Jvm.MethodName)) ∈ lw_all := lw_g (lw_at lw_m9 45 rfl) rfl
theorem q2073 : (Jvm.Cond.methodLink "AnimationController$Clip" (31 : Nat) ({ cls := "java/util/ArrayList", name := "get", desc := "(I)Ljava/lang/Object;" } : Jvm.MethodName)) ∈ lw_all := lw_g (lw_at lw_m9 46 rfl) rfl
theorem q2074 : (Jvm.Cond.classLink "AnimationController$Clip" (35 : Nat) "AnimationController$Event") ∈ lw_all := lw_g (lw_at lw_m9 47 rfl) rfl
theorem q2075 : (Jvm.Cond.methodLink "AnimationController$Clip" (40 : Nat) ({ cls := "java/util/ArrayList", name := "add", desc := "(ILjava/lang/Object;)V" } : Jvm.MethodName)) ∈ lw_all := lw_g (lw_at lw_m9 48 rfl) rfl
theorem q3305 : (Jvm.Cond.castable "AnimationController$Clip" "java/lang/Object") ∈ lw_tbl := lw_at lw_m14 78 rfl
theorem in_X6 : ∀ w ∈ wsX60, w ∈ lw_all := lw_in wsX60 [2033, 2035, 2037] (by decide +kernel) (by decide +kernel)

/-! AnimationController$Event -/
set_option maxRecDepth 100000
def RX7 : String := "AnimationController$Event"
def TX7 : u_T := fun k => match k with
  | 0 => ("AnimationController$Event", "time", "I", true)
  | _ => ("AnimationController$Event", "id", "I", true)
def tyX7 : Nat → FieldType := fun k => match k with
  | 0 => .int
  | _ => .int
abbrev wsX70 : List Cond := u_ws RX7 TX7 2
theorem nmX7 : ∀ a, a < 2 → ∀ b, b < 2 → a ≠ b → (TX7 a).2.1 ≠ (TX7 b).2.1 := by decide +kernel
theorem tyX7_ok : ∀ k, k < 2 → parseFieldDescriptor (TX7 k).2.2.1 = some (tyX7 k) := by decide +kernel
abbrev cX7_init : ByteArray := prog_6_method_1_code
def yX7_init : MethodName := ⟨RX7, "<init>", "(II)V"⟩
def dkwX7_init_0 : List UInt8 := [42, 183, 0, 1, 42, 27, 181, 0, 7, 42, 28, 181, 0, 13, 177]
abbrev dktX7_init_0 : List UInt8 := dkwX7_init_0 ++ []
theorem dksX7_init_0 : cX7_init.data.toList.drop 0 = dktX7_init_0 := by decide +kernel
theorem dX7_init_0 : decode cX7_init 0 = .ok (.aload_n 0, 1) := dk_42 (dk_at dksX7_init_0 0 rfl rfl)
theorem dX7_init_1 : decode cX7_init 1 = .ok (.invokespecial 1, 3) := dk_183 0 1 (dk_at dksX7_init_0 1 rfl rfl)
theorem dX7_init_4 : decode cX7_init 4 = .ok (.aload_n 0, 1) := dk_42 (dk_at dksX7_init_0 4 rfl rfl)
theorem dX7_init_5 : decode cX7_init 5 = .ok (.iload_n 1, 1) := dk_27 (dk_at dksX7_init_0 5 rfl rfl)
theorem dX7_init_6 : decode cX7_init 6 = .ok (.putfield 7, 3) := dk_181 0 7 (dk_at dksX7_init_0 6 rfl rfl)
theorem dX7_init_9 : decode cX7_init 9 = .ok (.aload_n 0, 1) := dk_42 (dk_at dksX7_init_0 9 rfl rfl)
theorem dX7_init_10 : decode cX7_init 10 = .ok (.iload_n 2, 1) := dk_28 (dk_at dksX7_init_0 10 rfl rfl)
theorem dX7_init_11 : decode cX7_init 11 = .ok (.putfield 13, 3) := dk_181 0 13 (dk_at dksX7_init_0 11 rfl rfl)
theorem dX7_init_14 : decode cX7_init 14 = .ok (.return_, 1) := dk_177 (dk_at dksX7_init_0 14 rfl rfl)
theorem q140 : (Jvm.Cond.initialized "AnimationController$Event") ∈ lw_all := lw_g (lw_at lw_m1 33 rfl) rfl
theorem q1119 : (Jvm.Cond.selects "AnimationController$Event" ({ cls := "java/lang/Object", name := "getClass", desc := "()Ljava/lang/Class;" } : Jvm.MethodName) ({ cls := "java/lang/Object", name := "getClass", desc := "()Ljava/lang/Class;" } : Jvm.MethodName)) ∈ lw_all := lw_g (lw_at lw_m5 52 rfl) rfl
theorem q1279 : (Jvm.Cond.selects "AnimationController$Event" ({ cls := "java/lang/Object", name := "hashCode", desc := "()I" } : Jvm.MethodName) ({ cls := "java/lang/Object", name := "hashCode", desc := "()I" } : Jvm.MethodName)) ∈ lw_all := lw_g (lw_at lw_m5 212 rfl) rfl
theorem q1376 : (Jvm.Cond.selects "AnimationController$Event" ({ cls := "java/lang/Object", name := "equals", desc := "(Ljava/lang/Object;)Z" } : Jvm.MethodName) ({ cls := "java/lang/Object", name := "equals", desc := "(Ljava/lang/Object;)Z" } : Jvm.MethodName)) ∈ lw_all := lw_g (lw_at lw_m6 69 rfl) rfl
theorem q2053 : (Jvm.Cond.instantiable "AnimationController$Event" (2 : Nat)) ∈ lw_all := lw_g (lw_at lw_m9 26 rfl) rfl
theorem q2055 : (Jvm.Cond.instanceMethod ({ cls := "AnimationController$Event", name := "<init>", desc := "(II)V" } : Jvm.MethodName)) ∈ lw_all := lw_g (lw_at lw_m9 28 rfl) rfl
theorem q2056 : (Jvm.Cond.code ({ cls := "AnimationController$Event", name := "<init>", desc := "(II)V" } : Jvm.MethodName) prog_6_method_1_code (3 : Nat) (Option.none : Option Jvm.ClassFile.FieldType)) ∈ lw_all := lw_g (lw_at lw_m9 29 rfl) rfl
theorem q2057 : (Jvm.Cond.methodLink "AnimationController$Event" (1 : Nat) ({ cls := "java/lang/Object", name := "<init>", desc := "()V" } : Jvm.MethodName)) ∈ lw_all := lw_g (lw_at lw_m9 30 rfl) rfl
theorem q2058 : (Jvm.Cond.fieldLink "AnimationController$Event" (7 : Nat) "AnimationController$Event" "time" "I") ∈ lw_all := lw_g (lw_at lw_m9 31 rfl) rfl
theorem q2061 : (Jvm.Cond.fieldLink "AnimationController$Event" (13 : Nat) "AnimationController$Event" "id" "I") ∈ lw_all := lw_g (lw_at lw_m9 34 rfl) rfl
theorem q2063 : (Jvm.Cond.laysFinal "AnimationController$Event" "AnimationController$Event" "time" "I") ∈ lw_all := lw_g (lw_at lw_m9 36 rfl) rfl
theorem q2064 : (Jvm.Cond.soleField "AnimationController$Event" "time") ∈ lw_all := lw_g (lw_at lw_m9 37 rfl) rfl
theorem q2065 : (Jvm.Cond.laysFinal "AnimationController$Event" "AnimationController$Event" "id" "I") ∈ lw_all := lw_g (lw_at lw_m9 38 rfl) rfl
theorem q2066 : (Jvm.Cond.soleField "AnimationController$Event" "id") ∈ lw_all := lw_g (lw_at lw_m9 39 rfl) rfl
theorem q2067 : (Jvm.Cond.superclass "AnimationController$Event" "java/lang/Object") ∈ lw_all := lw_g (lw_at lw_m9 40 rfl) rfl
theorem q3306 : (Jvm.Cond.castable "AnimationController$Event" "java/lang/Object") ∈ lw_tbl := lw_at lw_m14 79 rfl
theorem in_X7 : ∀ w ∈ wsX70, w ∈ lw_all := lw_in wsX70 [2063, 2065] (by decide +kernel) (by decide +kernel)

/-! AnimationController$Node -/
set_option maxRecDepth 100000
def RX8 : String := "AnimationController$Node"
abbrev cX8_init : ByteArray := prog_10_method_1_code
def yX8_init : MethodName := ⟨RX8, "<init>", "()V"⟩
theorem dX8_init_0 : decode cX8_init 0 = .ok (.aload_n 0, 1) := by decide +kernel
theorem dX8_init_1 : decode cX8_init 1 = .ok (.invokespecial 1, 3) := by decide +kernel
theorem dX8_init_4 : decode cX8_init 4 = .ok (.return_, 1) := by decide +kernel
theorem q141 : (Jvm.Cond.initialized "AnimationController$Node") ∈ lw_all := lw_g (lw_at lw_m1 34 rfl) rfl
theorem q857 : (Jvm.Cond.declares ({ cls := "AnimationController$Node", name := "blend", desc := "(LAnimationController$Blend;I)V" } : Jvm.MethodName)) ∈ lw_tbl := lw_at lw_m4 30 rfl
theorem q858 : (Jvm.Cond.sameMethod "AnimationController$Node" "AnimationController$Node" "blend" "(LAnimationController$Blend;I)V") ∈ lw_all := lw_g (lw_at lw_m4 31 rfl) rfl
theorem q2105 : (Jvm.Cond.instanceMethod ({ cls := "AnimationController$Node", name := "<init>", desc := "()V" } : Jvm.MethodName)) ∈ lw_all := lw_g (lw_at lw_m9 78 rfl) rfl
theorem q2106 : (Jvm.Cond.code ({ cls := "AnimationController$Node", name := "<init>", desc := "()V" } : Jvm.MethodName) prog_10_method_1_code (1 : Nat) (Option.none : Option Jvm.ClassFile.FieldType)) ∈ lw_all := lw_g (lw_at lw_m9 79 rfl) rfl
theorem q2107 : (Jvm.Cond.methodLink "AnimationController$Node" (1 : Nat) ({ cls := "java/lang/Object", name := "<init>", desc := "()V" } : Jvm.MethodName)) ∈ lw_all := lw_g (lw_at lw_m9 80 rfl) rfl
theorem q2160 : (Jvm.Cond.declares ({ cls := "AnimationController$Node", name := "isComplete", desc := "()Z" } : Jvm.MethodName)) ∈ lw_tbl := lw_at lw_m9 133 rfl
theorem q2161 : (Jvm.Cond.sameMethod "AnimationController$Node" "AnimationController$Node" "isComplete" "()Z") ∈ lw_all := lw_g (lw_at lw_m9 134 rfl) rfl
theorem q2177 : (Jvm.Cond.declares ({ cls := "AnimationController$Node", name := "depth", desc := "()I" } : Jvm.MethodName)) ∈ lw_tbl := lw_at lw_m9 150 rfl
theorem q2178 : (Jvm.Cond.sameMethod "AnimationController$Node" "AnimationController$Node" "depth" "()I") ∈ lw_all := lw_g (lw_at lw_m9 151 rfl) rfl
theorem q3291 : (Jvm.Cond.castable "AnimationController$Node" "java/lang/Object") ∈ lw_tbl := lw_at lw_m14 64 rfl

/-! AnimationController$ClipNode -/
set_option maxRecDepth 100000
def RX9 : String := "AnimationController$ClipNode"
def TX9 : u_T := fun k => match k with
  | _ => ("AnimationController$ClipNode", "clip", "LAnimationController$Clip;", true)
def tyX9 : Nat → FieldType := fun k => match k with
  | _ => .object "AnimationController$Clip"
abbrev wsX90 : List Cond := u_ws RX9 TX9 1
theorem nmX9 : ∀ a, a < 1 → ∀ b, b < 1 → a ≠ b → (TX9 a).2.1 ≠ (TX9 b).2.1 := by decide +kernel
theorem tyX9_ok : ∀ k, k < 1 → parseFieldDescriptor (TX9 k).2.2.1 = some (tyX9 k) := by decide +kernel
abbrev cX9_blend : ByteArray := prog_4_method_4_code
def yX9_blend : MethodName := ⟨RX9, "blend", "(LAnimationController$Blend;I)V"⟩
def dkwX9_blend_0 : List UInt8 := [43, 42, 180, 0, 7, 180, 0, 13, 28, 182, 0, 19, 177]
abbrev dktX9_blend_0 : List UInt8 := dkwX9_blend_0 ++ []
theorem dksX9_blend_0 : cX9_blend.data.toList.drop 0 = dktX9_blend_0 := by decide +kernel
theorem dX9_blend_0 : decode cX9_blend 0 = .ok (.aload_n 1, 1) := dk_43 (dk_at dksX9_blend_0 0 rfl rfl)
theorem dX9_blend_1 : decode cX9_blend 1 = .ok (.aload_n 0, 1) := dk_42 (dk_at dksX9_blend_0 1 rfl rfl)
theorem dX9_blend_2 : decode cX9_blend 2 = .ok (.getfield 7, 3) := dk_180 0 7 (dk_at dksX9_blend_0 2 rfl rfl)
theorem dX9_blend_5 : decode cX9_blend 5 = .ok (.getfield 13, 3) := dk_180 0 13 (dk_at dksX9_blend_0 5 rfl rfl)
theorem dX9_blend_8 : decode cX9_blend 8 = .ok (.iload_n 2, 1) := dk_28 (dk_at dksX9_blend_0 8 rfl rfl)
theorem dX9_blend_9 : decode cX9_blend 9 = .ok (.invokevirtual 19, 3) := dk_182 0 19 (dk_at dksX9_blend_0 9 rfl rfl)
theorem dX9_blend_12 : decode cX9_blend 12 = .ok (.return_, 1) := dk_177 (dk_at dksX9_blend_0 12 rfl rfl)
abbrev cX9_init : ByteArray := prog_4_method_1_code
def yX9_init : MethodName := ⟨RX9, "<init>", "(LAnimationController$Clip;)V"⟩
def dkwX9_init_0 : List UInt8 := [42, 183, 0, 1, 42, 43, 181, 0, 7, 177]
abbrev dktX9_init_0 : List UInt8 := dkwX9_init_0 ++ []
theorem dksX9_init_0 : cX9_init.data.toList.drop 0 = dktX9_init_0 := by decide +kernel
theorem dX9_init_0 : decode cX9_init 0 = .ok (.aload_n 0, 1) := dk_42 (dk_at dksX9_init_0 0 rfl rfl)
theorem dX9_init_1 : decode cX9_init 1 = .ok (.invokespecial 1, 3) := dk_183 0 1 (dk_at dksX9_init_0 1 rfl rfl)
theorem dX9_init_4 : decode cX9_init 4 = .ok (.aload_n 0, 1) := dk_42 (dk_at dksX9_init_0 4 rfl rfl)
theorem dX9_init_5 : decode cX9_init 5 = .ok (.aload_n 1, 1) := dk_43 (dk_at dksX9_init_0 5 rfl rfl)
theorem dX9_init_6 : decode cX9_init 6 = .ok (.putfield 7, 3) := dk_181 0 7 (dk_at dksX9_init_0 6 rfl rfl)
theorem dX9_init_9 : decode cX9_init 9 = .ok (.return_, 1) := dk_177 (dk_at dksX9_init_0 9 rfl rfl)
abbrev cX9_isComplete : ByteArray := prog_4_method_2_code
def yX9_isComplete : MethodName := ⟨RX9, "isComplete", "()Z"⟩
theorem dX9_isComplete_0 : decode cX9_isComplete 0 = .ok (.iconst 1, 1) := by decide +kernel
theorem dX9_isComplete_1 : decode cX9_isComplete 1 = .ok (.ireturn, 1) := by decide +kernel
abbrev cX9_depth : ByteArray := prog_4_method_3_code
def yX9_depth : MethodName := ⟨RX9, "depth", "()I"⟩
theorem dX9_depth_0 : decode cX9_depth 0 = .ok (.iconst 1, 1) := by decide +kernel
theorem dX9_depth_1 : decode cX9_depth 1 = .ok (.ireturn, 1) := by decide +kernel
theorem q142 : (Jvm.Cond.initialized "AnimationController$ClipNode") ∈ lw_all := lw_g (lw_at lw_m1 35 rfl) rfl
theorem q859 : (Jvm.Cond.selects "AnimationController$ClipNode" ({ cls := "AnimationController$Node", name := "blend", desc := "(LAnimationController$Blend;I)V" } : Jvm.MethodName) ({ cls := "AnimationController$ClipNode", name := "blend", desc := "(LAnimationController$Blend;I)V" } : Jvm.MethodName)) ∈ lw_all := lw_g (lw_at lw_m4 32 rfl) rfl
theorem q860 : (Jvm.Cond.instanceMethod ({ cls := "AnimationController$ClipNode", name := "blend", desc := "(LAnimationController$Blend;I)V" } : Jvm.MethodName)) ∈ lw_all := lw_g (lw_at lw_m4 33 rfl) rfl
theorem q861 : (Jvm.Cond.code ({ cls := "AnimationController$ClipNode", name := "blend", desc := "(LAnimationController$Blend;I)V" } : Jvm.MethodName) prog_4_method_4_code (3 : Nat) (Option.none : Option Jvm.ClassFile.FieldType)) ∈ lw_all := lw_g (lw_at lw_m4 34 rfl) rfl
theorem q862 : (Jvm.Cond.methodLink "AnimationController$ClipNode" (19 : Nat) ({ cls := "AnimationController$Blend", name := "add", desc := "(II)V" } : Jvm.MethodName)) ∈ lw_all := lw_g (lw_at lw_m4 35 rfl) rfl
theorem q1117 : (Jvm.Cond.selects "AnimationController$ClipNode" ({ cls := "java/lang/Object", name := "getClass", desc := "()Ljava/lang/Class;" } : Jvm.MethodName) ({ cls := "java/lang/Object", name := "getClass", desc := "()Ljava/lang/Class;" } : Jvm.MethodName)) ∈ lw_all := lw_g (lw_at lw_m5 50 rfl) rfl
theorem q1277 : (Jvm.Cond.selects "AnimationController$ClipNode" ({ cls := "java/lang/Object", name := "hashCode", desc := "()I" } : Jvm.MethodName) ({ cls := "java/lang/Object", name := "hashCode", desc := "()I" } : Jvm.MethodName)) ∈ lw_all := lw_g (lw_at lw_m5 210 rfl) rfl
theorem q1374 : (Jvm.Cond.selects "AnimationController$ClipNode" ({ cls := "java/lang/Object", name := "equals", desc := "(Ljava/lang/Object;)Z" } : Jvm.MethodName) ({ cls := "java/lang/Object", name := "equals", desc := "(Ljava/lang/Object;)Z" } : Jvm.MethodName)) ∈ lw_all := lw_g (lw_at lw_m6 67 rfl) rfl
theorem q2024 : (Jvm.Cond.fieldLinkNest "AnimationController$ClipNode" (13 : Nat) "AnimationController$Clip" "number" "I" "AnimationController") ∈ lw_tbl := lw_at lw_m8 237 rfl
theorem q2100 : (Jvm.Cond.instantiable "AnimationController$ClipNode" (1 : Nat)) ∈ lw_all := lw_g (lw_at lw_m9 73 rfl) rfl
theorem q2102 : (Jvm.Cond.instanceMethod ({ cls := "AnimationController$ClipNode", name := "<init>", desc := "(LAnimationController$Clip;)V" } : Jvm.MethodName)) ∈ lw_all := lw_g (lw_at lw_m9 75 rfl) rfl
theorem q2103 : (Jvm.Cond.code ({ cls := "AnimationController$ClipNode", name := "<init>", desc := "(LAnimationController$Clip;)V" } : Jvm.MethodName) prog_4_method_1_code (2 : Nat) (Option.none : Option Jvm.ClassFile.FieldType)) ∈ lw_all := lw_g (lw_at lw_m9 76 rfl) rfl
theorem q2104 : (Jvm.Cond.methodLinkNest "AnimationController$ClipNode" (1 : Nat) ({ cls := "AnimationController$Node", name := "<init>", desc := "()V" } : Jvm.MethodName) "AnimationController") ∈ lw_tbl := lw_at lw_m9 77 rfl
theorem q2108 : (Jvm.Cond.fieldLink "AnimationController$ClipNode" (7 : Nat) "AnimationController$ClipNode" "clip" "LAnimationController$Clip;") ∈ lw_all := lw_g (lw_at lw_m9 81 rfl) rfl
theorem q2109 : (Jvm.Cond.laysFinal "AnimationController$ClipNode" "AnimationController$ClipNode" "clip" "LAnimationController$Clip;") ∈ lw_all := lw_g (lw_at lw_m9 82 rfl) rfl
theorem q2110 : (Jvm.Cond.soleField "AnimationController$ClipNode" "clip") ∈ lw_all := lw_g (lw_at lw_m9 83 rfl) rfl
theorem q2111 : (Jvm.Cond.superclass "AnimationController$ClipNode" "AnimationController$Node") ∈ lw_all := lw_g (lw_at lw_m9 84 rfl) rfl
theorem q2162 : (Jvm.Cond.selects "AnimationController$ClipNode" ({ cls := "AnimationController$Node", name := "isComplete", desc := "()Z" } : Jvm.MethodName) ({ cls := "AnimationController$ClipNode", name := "isComplete", desc := "()Z" } : Jvm.MethodName)) ∈ lw_all := lw_g (lw_at lw_m9 135 rfl) rfl
theorem q2163 : (Jvm.Cond.instanceMethod ({ cls := "AnimationController$ClipNode", name := "isComplete", desc := "()Z" } : Jvm.MethodName)) ∈ lw_all := lw_g (lw_at lw_m9 136 rfl) rfl
theorem q2164 : (Jvm.Cond.code ({ cls := "AnimationController$ClipNode", name := "isComplete", desc := "()Z" } : Jvm.MethodName) prog_4_method_2_code (1 : Nat) (Option.some Jvm.ClassFile.FieldType.boolean)) ∈ lw_all := lw_g (lw_at lw_m9 137 rfl) rfl
theorem q2179 : (Jvm.Cond.selects "AnimationController$ClipNode" ({ cls := "AnimationController$Node", name := "depth", desc := "()I" } : Jvm.MethodName) ({ cls := "AnimationController$ClipNode", name := "depth", desc := "()I" } : Jvm.MethodName)) ∈ lw_all := lw_g (lw_at lw_m9 152 rfl) rfl
theorem q2180 : (Jvm.Cond.instanceMethod ({ cls := "AnimationController$ClipNode", name := "depth", desc := "()I" } : Jvm.MethodName)) ∈ lw_all := lw_g (lw_at lw_m9 153 rfl) rfl
theorem q2181 : (Jvm.Cond.code ({ cls := "AnimationController$ClipNode", name := "depth", desc := "()I" } : Jvm.MethodName) prog_4_method_3_code (1 : Nat) (Option.some Jvm.ClassFile.FieldType.int)) ∈ lw_all := lw_g (lw_at lw_m9 154 rfl) rfl
theorem q3287 : (Jvm.Cond.castable "AnimationController$ClipNode" "AnimationController$Node") ∈ lw_tbl := lw_at lw_m14 60 rfl
theorem q3307 : (Jvm.Cond.castable "AnimationController$ClipNode" "java/lang/Object") ∈ lw_tbl := lw_at lw_m14 80 rfl
theorem in_X9 : ∀ w ∈ wsX90, w ∈ lw_all := lw_in wsX90 [2109] (by decide +kernel) (by decide +kernel)
