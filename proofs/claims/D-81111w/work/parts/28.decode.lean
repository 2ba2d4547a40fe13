/-! DECODING BY ONE WALK OVER THE BYTES, by tools/gendec.py -/
set_option maxRecDepth 100000
/-- the code has just these bytes from pc on -/
def DkAt (code : ByteArray) (pc : Nat) (bs : List UInt8) : Prop := ∀ (j : Nat) (b : UInt8), bs[j]? = some b → code.data.toList[pc + j]? = some b
/-- the piece W has the bytes bs from its place j on -/
def dkIn (W : List UInt8) (j : Nat) (bs : List UInt8) : Bool := decide ((W.drop j).take bs.length = bs)
theorem dk_seg {l W T : List UInt8} {o o2 : Nat} (h : l.drop o = W ++ T) (n : Nat) (hn : W.length = n) (ho : o + n = o2) : l.drop o2 = T := by
  subst ho
  rw [← List.drop_drop, h, List.drop_left' hn]
theorem dk_at {code : ByteArray} {W T bs : List UInt8} {o pc : Nat} (h : code.data.toList.drop o = W ++ T) (j : Nat) (hp : o + j = pc) (hw : dkIn W j bs = true) : DkAt code pc bs := by
  subst hp
  intro i b e
  have h1 := of_decide_eq_true hw
  have h2 : i < bs.length := (List.getElem?_eq_some_iff.mp e).1
  have h3 : W[j + i]? = some b := by
    rw [← h1, List.getElem?_take, if_pos h2, List.getElem?_drop] at e
    exact e
  have h4 : j + i < W.length := (List.getElem?_eq_some_iff.mp h3).1
  have h5 : (code.data.toList.drop o)[j + i]? = some b := by
    rw [h, List.getElem?_append_left h4]
    exact h3
  rw [List.getElem?_drop, ← Nat.add_assoc] at h5
  exact h5
theorem dk_u1 {A : ByteArray} {p : Nat} {b : UInt8} (h : A.data.toList[p]? = some b) : (Reader.u1 : Reader DecodeError Nat) A p = .ok (b.toNat, p + 1) := by
  obtain ⟨h1, h2⟩ := List.getElem?_eq_some_iff.mp h
  have h3 : p < A.size := by simpa using h1
  have h4 : A[p]'h3 = b := h2
  have e : (Reader.u1 : Reader DecodeError Nat) A p = (if h : p < A.size then .ok (A[p].toNat, p + 1) else .error (HasTruncated.truncated p)) := by
    show (do if h : p < A.size then do set (p + 1); Pure.pure A[p].toNat else MonadExcept.throw (HasTruncated.truncated p) : Reader DecodeError Nat) A p = _
    by_cases hi : p < A.size
    · rw [dif_pos hi, dif_pos hi]; rfl
    · rw [dif_neg hi, dif_neg hi]; rfl
  rw [e, dif_pos h3, h4]
theorem dk_bind {α β : Type} {r : Reader DecodeError α} {f : α → Reader DecodeError β} {A : ByteArray} {p s : Nat} {a : α} (h : r A p = .ok (a, s)) : (r >>= f) A p = f a A s := by
  show (do let (a, s) ← r A p; f a A s : Except DecodeError (β × Nat)) = _
  rw [h]
  rfl
theorem dk_map {α β : Type} {r : Reader DecodeError α} {g : α → β} {A : ByteArray} {p s : Nat} {a : α} (h : r A p = .ok (a, s)) : (g <$> r) A p = .ok (g a, s) := by
  show (do let (a, s) ← r A p; .ok (g a, s) : Except DecodeError (β × Nat)) = _
  rw [h]
  rfl
theorem dk_u2 {A : ByteArray} {p : Nat} {a b : UInt8} (h : A.data.toList[p]? = some a) (h2 : A.data.toList[p + 1]? = some b) : (Reader.u2 : Reader DecodeError Nat) A p = .ok (a.toNat * 256 + b.toNat, p + 2) := by
  show (Reader.u1 >>= fun hi => Reader.u1 >>= fun lo => Pure.pure (hi * 256 + lo) : Reader DecodeError Nat) A p = _
  rw [dk_bind (dk_u1 h), dk_bind (dk_u1 h2)]
  rfl
theorem dk_of {code : ByteArray} {pc n : Nat} {i : Instr} (h : Decoder.instr pc code pc = .ok (i, pc + n)) : decode code pc = .ok (i, n) := by
  have e : decode code pc = (match Decoder.instr pc code pc with | .error x => .error x | .ok (j, s) => .ok (j, s - pc)) := by
    show (do let (j, s) ← Decoder.instr pc code pc; Pure.pure (j, s - pc) : Except DecodeError (Instr × Nat)) = _
    cases Decoder.instr pc code pc <;> rfl
  rw [e, h]
  show Except.ok (i, pc + n - pc) = _
  rw [Nat.add_sub_cancel_left]
theorem dk_1 {code : ByteArray} {pc : Nat} (h : DkAt code pc [1]) : decode code pc = .ok (.aconst_null, 1) := dk_of ((dk_bind (dk_u1 (h 0 _ rfl))).trans rfl)
theorem dk_2 {code : ByteArray} {pc : Nat} (h : DkAt code pc [2]) : decode code pc = .ok (.iconst (-1), 1) := dk_of ((dk_bind (dk_u1 (h 0 _ rfl))).trans rfl)
theorem dk_3 {code : ByteArray} {pc : Nat} (h : DkAt code pc [3]) : decode code pc = .ok (.iconst 0, 1) := dk_of ((dk_bind (dk_u1 (h 0 _ rfl))).trans rfl)
theorem dk_4 {code : ByteArray} {pc : Nat} (h : DkAt code pc [4]) : decode code pc = .ok (.iconst 1, 1) := dk_of ((dk_bind (dk_u1 (h 0 _ rfl))).trans rfl)
theorem dk_5 {code : ByteArray} {pc : Nat} (h : DkAt code pc [5]) : decode code pc = .ok (.iconst 2, 1) := dk_of ((dk_bind (dk_u1 (h 0 _ rfl))).trans rfl)
theorem dk_6 {code : ByteArray} {pc : Nat} (h : DkAt code pc [6]) : decode code pc = .ok (.iconst 3, 1) := dk_of ((dk_bind (dk_u1 (h 0 _ rfl))).trans rfl)
theorem dk_7 {code : ByteArray} {pc : Nat} (h : DkAt code pc [7]) : decode code pc = .ok (.iconst 4, 1) := dk_of ((dk_bind (dk_u1 (h 0 _ rfl))).trans rfl)
theorem dk_8 {code : ByteArray} {pc : Nat} (h : DkAt code pc [8]) : decode code pc = .ok (.iconst 5, 1) := dk_of ((dk_bind (dk_u1 (h 0 _ rfl))).trans rfl)
theorem dk_9 {code : ByteArray} {pc : Nat} (h : DkAt code pc [9]) : decode code pc = .ok (.lconst 0, 1) := dk_of ((dk_bind (dk_u1 (h 0 _ rfl))).trans rfl)
theorem dk_10 {code : ByteArray} {pc : Nat} (h : DkAt code pc [10]) : decode code pc = .ok (.lconst 1, 1) := dk_of ((dk_bind (dk_u1 (h 0 _ rfl))).trans rfl)
theorem dk_16 {code : ByteArray} {pc : Nat} (a : UInt8) (h : DkAt code pc [16, a]) : decode code pc = .ok (.bipush (Reader.signed 8 a.toNat), 2) := dk_of ((dk_bind (dk_u1 (h 0 _ rfl))).trans ((dk_bind (dk_map (dk_u1 (h 1 _ rfl)))).trans rfl))
theorem dk_17 {code : ByteArray} {pc : Nat} (a b : UInt8) (h : DkAt code pc [17, a, b]) : decode code pc = .ok (.sipush (Reader.signed 16 (a.toNat * 256 + b.toNat)), 3) := dk_of ((dk_bind (dk_u1 (h 0 _ rfl))).trans ((dk_bind (dk_map (dk_u2 (h 1 _ rfl) (h 2 _ rfl)))).trans rfl))
theorem dk_18 {code : ByteArray} {pc : Nat} (a : UInt8) (h : DkAt code pc [18, a]) : decode code pc = .ok (.ldc a.toNat, 2) := dk_of ((dk_bind (dk_u1 (h 0 _ rfl))).trans ((dk_bind (dk_u1 (h 1 _ rfl))).trans rfl))
theorem dk_19 {code : ByteArray} {pc : Nat} (a b : UInt8) (h : DkAt code pc [19, a, b]) : decode code pc = .ok (.ldc_w (a.toNat * 256 + b.toNat), 3) := dk_of ((dk_bind (dk_u1 (h 0 _ rfl))).trans ((dk_bind (dk_u2 (h 1 _ rfl) (h 2 _ rfl))).trans rfl))
theorem dk_20 {code : ByteArray} {pc : Nat} (a b : UInt8) (h : DkAt code pc [20, a, b]) : decode code pc = .ok (.ldc2_w (a.toNat * 256 + b.toNat), 3) := dk_of ((dk_bind (dk_u1 (h 0 _ rfl))).trans ((dk_bind (dk_u2 (h 1 _ rfl) (h 2 _ rfl))).trans rfl))
theorem dk_21 {code : ByteArray} {pc : Nat} (a : UInt8) (h : DkAt code pc [21, a]) : decode code pc = .ok (.iload a.toNat, 2) := dk_of ((dk_bind (dk_u1 (h 0 _ rfl))).trans ((dk_bind (dk_u1 (h 1 _ rfl))).trans rfl))
theorem dk_22 {code : ByteArray} {pc : Nat} (a : UInt8) (h : DkAt code pc [22, a]) : decode code pc = .ok (.lload a.toNat, 2) := dk_of ((dk_bind (dk_u1 (h 0 _ rfl))).trans ((dk_bind (dk_u1 (h 1 _ rfl))).trans rfl))
theorem dk_25 {code : ByteArray} {pc : Nat} (a : UInt8) (h : DkAt code pc [25, a]) : decode code pc = .ok (.aload a.toNat, 2) := dk_of ((dk_bind (dk_u1 (h 0 _ rfl))).trans ((dk_bind (dk_u1 (h 1 _ rfl))).trans rfl))
theorem dk_26 {code : ByteArray} {pc : Nat} (h : DkAt code pc [26]) : decode code pc = .ok (.iload_n 0, 1) := dk_of ((dk_bind (dk_u1 (h 0 _ rfl))).trans rfl)
theorem dk_27 {code : ByteArray} {pc : Nat} (h : DkAt code pc [27]) : decode code pc = .ok (.iload_n 1, 1) := dk_of ((dk_bind (dk_u1 (h 0 _ rfl))).trans rfl)
theorem dk_28 {code : ByteArray} {pc : Nat} (h : DkAt code pc [28]) : decode code pc = .ok (.iload_n 2, 1) := dk_of ((dk_bind (dk_u1 (h 0 _ rfl))).trans rfl)
theorem dk_29 {code : ByteArray} {pc : Nat} (h : DkAt code pc [29]) : decode code pc = .ok (.iload_n 3, 1) := dk_of ((dk_bind (dk_u1 (h 0 _ rfl))).trans rfl)
theorem dk_30 {code : ByteArray} {pc : Nat} (h : DkAt code pc [30]) : decode code pc = .ok (.lload_n 0, 1) := dk_of ((dk_bind (dk_u1 (h 0 _ rfl))).trans rfl)
theorem dk_31 {code : ByteArray} {pc : Nat} (h : DkAt code pc [31]) : decode code pc = .ok (.lload_n 1, 1) := dk_of ((dk_bind (dk_u1 (h 0 _ rfl))).trans rfl)
theorem dk_32 {code : ByteArray} {pc : Nat} (h : DkAt code pc [32]) : decode code pc = .ok (.lload_n 2, 1) := dk_of ((dk_bind (dk_u1 (h 0 _ rfl))).trans rfl)
theorem dk_33 {code : ByteArray} {pc : Nat} (h : DkAt code pc [33]) : decode code pc = .ok (.lload_n 3, 1) := dk_of ((dk_bind (dk_u1 (h 0 _ rfl))).trans rfl)
theorem dk_42 {code : ByteArray} {pc : Nat} (h : DkAt code pc [42]) : decode code pc = .ok (.aload_n 0, 1) := dk_of ((dk_bind (dk_u1 (h 0 _ rfl))).trans rfl)
theorem dk_43 {code : ByteArray} {pc : Nat} (h : DkAt code pc [43]) : decode code pc = .ok (.aload_n 1, 1) := dk_of ((dk_bind (dk_u1 (h 0 _ rfl))).trans rfl)
theorem dk_44 {code : ByteArray} {pc : Nat} (h : DkAt code pc [44]) : decode code pc = .ok (.aload_n 2, 1) := dk_of ((dk_bind (dk_u1 (h 0 _ rfl))).trans rfl)
theorem dk_45 {code : ByteArray} {pc : Nat} (h : DkAt code pc [45]) : decode code pc = .ok (.aload_n 3, 1) := dk_of ((dk_bind (dk_u1 (h 0 _ rfl))).trans rfl)
theorem dk_46 {code : ByteArray} {pc : Nat} (h : DkAt code pc [46]) : decode code pc = .ok (.iaload, 1) := dk_of ((dk_bind (dk_u1 (h 0 _ rfl))).trans rfl)
theorem dk_47 {code : ByteArray} {pc : Nat} (h : DkAt code pc [47]) : decode code pc = .ok (.laload, 1) := dk_of ((dk_bind (dk_u1 (h 0 _ rfl))).trans rfl)
theorem dk_50 {code : ByteArray} {pc : Nat} (h : DkAt code pc [50]) : decode code pc = .ok (.aaload, 1) := dk_of ((dk_bind (dk_u1 (h 0 _ rfl))).trans rfl)
theorem dk_51 {code : ByteArray} {pc : Nat} (h : DkAt code pc [51]) : decode code pc = .ok (.baload, 1) := dk_of ((dk_bind (dk_u1 (h 0 _ rfl))).trans rfl)
theorem dk_54 {code : ByteArray} {pc : Nat} (a : UInt8) (h : DkAt code pc [54, a]) : decode code pc = .ok (.istore a.toNat, 2) := dk_of ((dk_bind (dk_u1 (h 0 _ rfl))).trans ((dk_bind (dk_u1 (h 1 _ rfl))).trans rfl))
theorem dk_55 {code : ByteArray} {pc : Nat} (a : UInt8) (h : DkAt code pc [55, a]) : decode code pc = .ok (.lstore a.toNat, 2) := dk_of ((dk_bind (dk_u1 (h 0 _ rfl))).trans ((dk_bind (dk_u1 (h 1 _ rfl))).trans rfl))
theorem dk_58 {code : ByteArray} {pc : Nat} (a : UInt8) (h : DkAt code pc [58, a]) : decode code pc = .ok (.astore a.toNat, 2) := dk_of ((dk_bind (dk_u1 (h 0 _ rfl))).trans ((dk_bind (dk_u1 (h 1 _ rfl))).trans rfl))
theorem dk_60 {code : ByteArray} {pc : Nat} (h : DkAt code pc [60]) : decode code pc = .ok (.istore_n 1, 1) := dk_of ((dk_bind (dk_u1 (h 0 _ rfl))).trans rfl)
theorem dk_61 {code : ByteArray} {pc : Nat} (h : DkAt code pc [61]) : decode code pc = .ok (.istore_n 2, 1) := dk_of ((dk_bind (dk_u1 (h 0 _ rfl))).trans rfl)
theorem dk_62 {code : ByteArray} {pc : Nat} (h : DkAt code pc [62]) : decode code pc = .ok (.istore_n 3, 1) := dk_of ((dk_bind (dk_u1 (h 0 _ rfl))).trans rfl)
theorem dk_66 {code : ByteArray} {pc : Nat} (h : DkAt code pc [66]) : decode code pc = .ok (.lstore_n 3, 1) := dk_of ((dk_bind (dk_u1 (h 0 _ rfl))).trans rfl)
theorem dk_76 {code : ByteArray} {pc : Nat} (h : DkAt code pc [76]) : decode code pc = .ok (.astore_n 1, 1) := dk_of ((dk_bind (dk_u1 (h 0 _ rfl))).trans rfl)
theorem dk_77 {code : ByteArray} {pc : Nat} (h : DkAt code pc [77]) : decode code pc = .ok (.astore_n 2, 1) := dk_of ((dk_bind (dk_u1 (h 0 _ rfl))).trans rfl)
theorem dk_78 {code : ByteArray} {pc : Nat} (h : DkAt code pc [78]) : decode code pc = .ok (.astore_n 3, 1) := dk_of ((dk_bind (dk_u1 (h 0 _ rfl))).trans rfl)
theorem dk_79 {code : ByteArray} {pc : Nat} (h : DkAt code pc [79]) : decode code pc = .ok (.iastore, 1) := dk_of ((dk_bind (dk_u1 (h 0 _ rfl))).trans rfl)
theorem dk_80 {code : ByteArray} {pc : Nat} (h : DkAt code pc [80]) : decode code pc = .ok (.lastore, 1) := dk_of ((dk_bind (dk_u1 (h 0 _ rfl))).trans rfl)
theorem dk_83 {code : ByteArray} {pc : Nat} (h : DkAt code pc [83]) : decode code pc = .ok (.aastore, 1) := dk_of ((dk_bind (dk_u1 (h 0 _ rfl))).trans rfl)
theorem dk_84 {code : ByteArray} {pc : Nat} (h : DkAt code pc [84]) : decode code pc = .ok (.bastore, 1) := dk_of ((dk_bind (dk_u1 (h 0 _ rfl))).trans rfl)
theorem dk_87 {code : ByteArray} {pc : Nat} (h : DkAt code pc [87]) : decode code pc = .ok (.pop, 1) := dk_of ((dk_bind (dk_u1 (h 0 _ rfl))).trans rfl)
theorem dk_89 {code : ByteArray} {pc : Nat} (h : DkAt code pc [89]) : decode code pc = .ok (.dup, 1) := dk_of ((dk_bind (dk_u1 (h 0 _ rfl))).trans rfl)
theorem dk_92 {code : ByteArray} {pc : Nat} (h : DkAt code pc [92]) : decode code pc = .ok (.dup2, 1) := dk_of ((dk_bind (dk_u1 (h 0 _ rfl))).trans rfl)
theorem dk_96 {code : ByteArray} {pc : Nat} (h : DkAt code pc [96]) : decode code pc = .ok (.iadd, 1) := dk_of ((dk_bind (dk_u1 (h 0 _ rfl))).trans rfl)
theorem dk_97 {code : ByteArray} {pc : Nat} (h : DkAt code pc [97]) : decode code pc = .ok (.ladd, 1) := dk_of ((dk_bind (dk_u1 (h 0 _ rfl))).trans rfl)
theorem dk_100 {code : ByteArray} {pc : Nat} (h : DkAt code pc [100]) : decode code pc = .ok (.isub, 1) := dk_of ((dk_bind (dk_u1 (h 0 _ rfl))).trans rfl)
theorem dk_101 {code : ByteArray} {pc : Nat} (h : DkAt code pc [101]) : decode code pc = .ok (.lsub, 1) := dk_of ((dk_bind (dk_u1 (h 0 _ rfl))).trans rfl)
theorem dk_104 {code : ByteArray} {pc : Nat} (h : DkAt code pc [104]) : decode code pc = .ok (.imul, 1) := dk_of ((dk_bind (dk_u1 (h 0 _ rfl))).trans rfl)
theorem dk_105 {code : ByteArray} {pc : Nat} (h : DkAt code pc [105]) : decode code pc = .ok (.lmul, 1) := dk_of ((dk_bind (dk_u1 (h 0 _ rfl))).trans rfl)
theorem dk_108 {code : ByteArray} {pc : Nat} (h : DkAt code pc [108]) : decode code pc = .ok (.idiv, 1) := dk_of ((dk_bind (dk_u1 (h 0 _ rfl))).trans rfl)
theorem dk_109 {code : ByteArray} {pc : Nat} (h : DkAt code pc [109]) : decode code pc = .ok (.ldiv, 1) := dk_of ((dk_bind (dk_u1 (h 0 _ rfl))).trans rfl)
theorem dk_112 {code : ByteArray} {pc : Nat} (h : DkAt code pc [112]) : decode code pc = .ok (.irem, 1) := dk_of ((dk_bind (dk_u1 (h 0 _ rfl))).trans rfl)
theorem dk_113 {code : ByteArray} {pc : Nat} (h : DkAt code pc [113]) : decode code pc = .ok (.lrem, 1) := dk_of ((dk_bind (dk_u1 (h 0 _ rfl))).trans rfl)
theorem dk_116 {code : ByteArray} {pc : Nat} (h : DkAt code pc [116]) : decode code pc = .ok (.ineg, 1) := dk_of ((dk_bind (dk_u1 (h 0 _ rfl))).trans rfl)
theorem dk_117 {code : ByteArray} {pc : Nat} (h : DkAt code pc [117]) : decode code pc = .ok (.lneg, 1) := dk_of ((dk_bind (dk_u1 (h 0 _ rfl))).trans rfl)
theorem dk_120 {code : ByteArray} {pc : Nat} (h : DkAt code pc [120]) : decode code pc = .ok (.ishl, 1) := dk_of ((dk_bind (dk_u1 (h 0 _ rfl))).trans rfl)
theorem dk_121 {code : ByteArray} {pc : Nat} (h : DkAt code pc [121]) : decode code pc = .ok (.lshl, 1) := dk_of ((dk_bind (dk_u1 (h 0 _ rfl))).trans rfl)
theorem dk_122 {code : ByteArray} {pc : Nat} (h : DkAt code pc [122]) : decode code pc = .ok (.ishr, 1) := dk_of ((dk_bind (dk_u1 (h 0 _ rfl))).trans rfl)
theorem dk_125 {code : ByteArray} {pc : Nat} (h : DkAt code pc [125]) : decode code pc = .ok (.lushr, 1) := dk_of ((dk_bind (dk_u1 (h 0 _ rfl))).trans rfl)
theorem dk_126 {code : ByteArray} {pc : Nat} (h : DkAt code pc [126]) : decode code pc = .ok (.iand, 1) := dk_of ((dk_bind (dk_u1 (h 0 _ rfl))).trans rfl)
theorem dk_127 {code : ByteArray} {pc : Nat} (h : DkAt code pc [127]) : decode code pc = .ok (.land, 1) := dk_of ((dk_bind (dk_u1 (h 0 _ rfl))).trans rfl)
theorem dk_128 {code : ByteArray} {pc : Nat} (h : DkAt code pc [128]) : decode code pc = .ok (.ior, 1) := dk_of ((dk_bind (dk_u1 (h 0 _ rfl))).trans rfl)
theorem dk_129 {code : ByteArray} {pc : Nat} (h : DkAt code pc [129]) : decode code pc = .ok (.lor, 1) := dk_of ((dk_bind (dk_u1 (h 0 _ rfl))).trans rfl)
theorem dk_130 {code : ByteArray} {pc : Nat} (h : DkAt code pc [130]) : decode code pc = .ok (.ixor, 1) := dk_of ((dk_bind (dk_u1 (h 0 _ rfl))).trans rfl)
theorem dk_132 {code : ByteArray} {pc : Nat} (a b : UInt8) (h : DkAt code pc [132, a, b]) : decode code pc = .ok (.iinc a.toNat (Reader.signed 8 b.toNat), 3) := dk_of ((dk_bind (dk_u1 (h 0 _ rfl))).trans ((dk_bind (dk_u1 (h 1 _ rfl))).trans ((dk_bind (dk_map (dk_u1 (h 2 _ rfl)))).trans rfl)))
theorem dk_133 {code : ByteArray} {pc : Nat} (h : DkAt code pc [133]) : decode code pc = .ok (.i2l, 1) := dk_of ((dk_bind (dk_u1 (h 0 _ rfl))).trans rfl)
theorem dk_136 {code : ByteArray} {pc : Nat} (h : DkAt code pc [136]) : decode code pc = .ok (.l2i, 1) := dk_of ((dk_bind (dk_u1 (h 0 _ rfl))).trans rfl)
theorem dk_146 {code : ByteArray} {pc : Nat} (h : DkAt code pc [146]) : decode code pc = .ok (.i2c, 1) := dk_of ((dk_bind (dk_u1 (h 0 _ rfl))).trans rfl)
theorem dk_148 {code : ByteArray} {pc : Nat} (h : DkAt code pc [148]) : decode code pc = .ok (.lcmp, 1) := dk_of ((dk_bind (dk_u1 (h 0 _ rfl))).trans rfl)
theorem dk_153 {code : ByteArray} {pc : Nat} (a b : UInt8) (h : DkAt code pc [153, a, b]) : decode code pc = .ok (.ifCond .eq (Reader.signed 16 (a.toNat * 256 + b.toNat)), 3) := dk_of ((dk_bind (dk_u1 (h 0 _ rfl))).trans ((dk_bind (dk_map (dk_u2 (h 1 _ rfl) (h 2 _ rfl)))).trans rfl))
theorem dk_154 {code : ByteArray} {pc : Nat} (a b : UInt8) (h : DkAt code pc [154, a, b]) : decode code pc = .ok (.ifCond .ne (Reader.signed 16 (a.toNat * 256 + b.toNat)), 3) := dk_of ((dk_bind (dk_u1 (h 0 _ rfl))).trans ((dk_bind (dk_map (dk_u2 (h 1 _ rfl) (h 2 _ rfl)))).trans rfl))
theorem dk_155 {code : ByteArray} {pc : Nat} (a b : UInt8) (h : DkAt code pc [155, a, b]) : decode code pc = .ok (.ifCond .lt (Reader.signed 16 (a.toNat * 256 + b.toNat)), 3) := dk_of ((dk_bind (dk_u1 (h 0 _ rfl))).trans ((dk_bind (dk_map (dk_u2 (h 1 _ rfl) (h 2 _ rfl)))).trans rfl))
theorem dk_156 {code : ByteArray} {pc : Nat} (a b : UInt8) (h : DkAt code pc [156, a, b]) : decode code pc = .ok (.ifCond .ge (Reader.signed 16 (a.toNat * 256 + b.toNat)), 3) := dk_of ((dk_bind (dk_u1 (h 0 _ rfl))).trans ((dk_bind (dk_map (dk_u2 (h 1 _ rfl) (h 2 _ rfl)))).trans rfl))
theorem dk_157 {code : ByteArray} {pc : Nat} (a b : UInt8) (h : DkAt code pc [157, a, b]) : decode code pc = .ok (.ifCond .gt (Reader.signed 16 (a.toNat * 256 + b.toNat)), 3) := dk_of ((dk_bind (dk_u1 (h 0 _ rfl))).trans ((dk_bind (dk_map (dk_u2 (h 1 _ rfl) (h 2 _ rfl)))).trans rfl))
theorem dk_158 {code : ByteArray} {pc : Nat} (a b : UInt8) (h : DkAt code pc [158, a, b]) : decode code pc = .ok (.ifCond .le (Reader.signed 16 (a.toNat * 256 + b.toNat)), 3) := dk_of ((dk_bind (dk_u1 (h 0 _ rfl))).trans ((dk_bind (dk_map (dk_u2 (h 1 _ rfl) (h 2 _ rfl)))).trans rfl))
theorem dk_159 {code : ByteArray} {pc : Nat} (a b : UInt8) (h : DkAt code pc [159, a, b]) : decode code pc = .ok (.if_icmp .eq (Reader.signed 16 (a.toNat * 256 + b.toNat)), 3) := dk_of ((dk_bind (dk_u1 (h 0 _ rfl))).trans ((dk_bind (dk_map (dk_u2 (h 1 _ rfl) (h 2 _ rfl)))).trans rfl))
theorem dk_160 {code : ByteArray} {pc : Nat} (a b : UInt8) (h : DkAt code pc [160, a, b]) : decode code pc = .ok (.if_icmp .ne (Reader.signed 16 (a.toNat * 256 + b.toNat)), 3) := dk_of ((dk_bind (dk_u1 (h 0 _ rfl))).trans ((dk_bind (dk_map (dk_u2 (h 1 _ rfl) (h 2 _ rfl)))).trans rfl))
theorem dk_161 {code : ByteArray} {pc : Nat} (a b : UInt8) (h : DkAt code pc [161, a, b]) : decode code pc = .ok (.if_icmp .lt (Reader.signed 16 (a.toNat * 256 + b.toNat)), 3) := dk_of ((dk_bind (dk_u1 (h 0 _ rfl))).trans ((dk_bind (dk_map (dk_u2 (h 1 _ rfl) (h 2 _ rfl)))).trans rfl))
theorem dk_162 {code : ByteArray} {pc : Nat} (a b : UInt8) (h : DkAt code pc [162, a, b]) : decode code pc = .ok (.if_icmp .ge (Reader.signed 16 (a.toNat * 256 + b.toNat)), 3) := dk_of ((dk_bind (dk_u1 (h 0 _ rfl))).trans ((dk_bind (dk_map (dk_u2 (h 1 _ rfl) (h 2 _ rfl)))).trans rfl))
theorem dk_163 {code : ByteArray} {pc : Nat} (a b : UInt8) (h : DkAt code pc [163, a, b]) : decode code pc = .ok (.if_icmp .gt (Reader.signed 16 (a.toNat * 256 + b.toNat)), 3) := dk_of ((dk_bind (dk_u1 (h 0 _ rfl))).trans ((dk_bind (dk_map (dk_u2 (h 1 _ rfl) (h 2 _ rfl)))).trans rfl))
theorem dk_164 {code : ByteArray} {pc : Nat} (a b : UInt8) (h : DkAt code pc [164, a, b]) : decode code pc = .ok (.if_icmp .le (Reader.signed 16 (a.toNat * 256 + b.toNat)), 3) := dk_of ((dk_bind (dk_u1 (h 0 _ rfl))).trans ((dk_bind (dk_map (dk_u2 (h 1 _ rfl) (h 2 _ rfl)))).trans rfl))
theorem dk_166 {code : ByteArray} {pc : Nat} (a b : UInt8) (h : DkAt code pc [166, a, b]) : decode code pc = .ok (.if_acmp .ne (Reader.signed 16 (a.toNat * 256 + b.toNat)), 3) := dk_of ((dk_bind (dk_u1 (h 0 _ rfl))).trans ((dk_bind (dk_map (dk_u2 (h 1 _ rfl) (h 2 _ rfl)))).trans rfl))
theorem dk_167 {code : ByteArray} {pc : Nat} (a b : UInt8) (h : DkAt code pc [167, a, b]) : decode code pc = .ok (.goto (Reader.signed 16 (a.toNat * 256 + b.toNat)), 3) := dk_of ((dk_bind (dk_u1 (h 0 _ rfl))).trans ((dk_bind (dk_map (dk_u2 (h 1 _ rfl) (h 2 _ rfl)))).trans rfl))
theorem dk_172 {code : ByteArray} {pc : Nat} (h : DkAt code pc [172]) : decode code pc = .ok (.ireturn, 1) := dk_of ((dk_bind (dk_u1 (h 0 _ rfl))).trans rfl)
theorem dk_173 {code : ByteArray} {pc : Nat} (h : DkAt code pc [173]) : decode code pc = .ok (.lreturn, 1) := dk_of ((dk_bind (dk_u1 (h 0 _ rfl))).trans rfl)
theorem dk_176 {code : ByteArray} {pc : Nat} (h : DkAt code pc [176]) : decode code pc = .ok (.areturn, 1) := dk_of ((dk_bind (dk_u1 (h 0 _ rfl))).trans rfl)
theorem dk_177 {code : ByteArray} {pc : Nat} (h : DkAt code pc [177]) : decode code pc = .ok (.return_, 1) := dk_of ((dk_bind (dk_u1 (h 0 _ rfl))).trans rfl)
theorem dk_178 {code : ByteArray} {pc : Nat} (a b : UInt8) (h : DkAt code pc [178, a, b]) : decode code pc = .ok (.getstatic (a.toNat * 256 + b.toNat), 3) := dk_of ((dk_bind (dk_u1 (h 0 _ rfl))).trans ((dk_bind (dk_u2 (h 1 _ rfl) (h 2 _ rfl))).trans rfl))
theorem dk_180 {code : ByteArray} {pc : Nat} (a b : UInt8) (h : DkAt code pc [180, a, b]) : decode code pc = .ok (.getfield (a.toNat * 256 + b.toNat), 3) := dk_of ((dk_bind (dk_u1 (h 0 _ rfl))).trans ((dk_bind (dk_u2 (h 1 _ rfl) (h 2 _ rfl))).trans rfl))
theorem dk_181 {code : ByteArray} {pc : Nat} (a b : UInt8) (h : DkAt code pc [181, a, b]) : decode code pc = .ok (.putfield (a.toNat * 256 + b.toNat), 3) := dk_of ((dk_bind (dk_u1 (h 0 _ rfl))).trans ((dk_bind (dk_u2 (h 1 _ rfl) (h 2 _ rfl))).trans rfl))
theorem dk_182 {code : ByteArray} {pc : Nat} (a b : UInt8) (h : DkAt code pc [182, a, b]) : decode code pc = .ok (.invokevirtual (a.toNat * 256 + b.toNat), 3) := dk_of ((dk_bind (dk_u1 (h 0 _ rfl))).trans ((dk_bind (dk_u2 (h 1 _ rfl) (h 2 _ rfl))).trans rfl))
theorem dk_183 {code : ByteArray} {pc : Nat} (a b : UInt8) (h : DkAt code pc [183, a, b]) : decode code pc = .ok (.invokespecial (a.toNat * 256 + b.toNat), 3) := dk_of ((dk_bind (dk_u1 (h 0 _ rfl))).trans ((dk_bind (dk_u2 (h 1 _ rfl) (h 2 _ rfl))).trans rfl))
theorem dk_184 {code : ByteArray} {pc : Nat} (a b : UInt8) (h : DkAt code pc [184, a, b]) : decode code pc = .ok (.invokestatic (a.toNat * 256 + b.toNat), 3) := dk_of ((dk_bind (dk_u1 (h 0 _ rfl))).trans ((dk_bind (dk_u2 (h 1 _ rfl) (h 2 _ rfl))).trans rfl))
theorem dk_187 {code : ByteArray} {pc : Nat} (a b : UInt8) (h : DkAt code pc [187, a, b]) : decode code pc = .ok (.new (a.toNat * 256 + b.toNat), 3) := dk_of ((dk_bind (dk_u1 (h 0 _ rfl))).trans ((dk_bind (dk_u2 (h 1 _ rfl) (h 2 _ rfl))).trans rfl))
theorem dk_188_4 {code : ByteArray} {pc : Nat} (h : DkAt code pc [188, 4]) : decode code pc = .ok (.newarray .boolean, 2) := dk_of ((dk_bind (dk_u1 (h 0 _ rfl))).trans ((dk_bind (dk_u1 (h 1 _ rfl))).trans rfl))
theorem dk_188_10 {code : ByteArray} {pc : Nat} (h : DkAt code pc [188, 10]) : decode code pc = .ok (.newarray .int, 2) := dk_of ((dk_bind (dk_u1 (h 0 _ rfl))).trans ((dk_bind (dk_u1 (h 1 _ rfl))).trans rfl))
theorem dk_188_11 {code : ByteArray} {pc : Nat} (h : DkAt code pc [188, 11]) : decode code pc = .ok (.newarray .long, 2) := dk_of ((dk_bind (dk_u1 (h 0 _ rfl))).trans ((dk_bind (dk_u1 (h 1 _ rfl))).trans rfl))
theorem dk_189 {code : ByteArray} {pc : Nat} (a b : UInt8) (h : DkAt code pc [189, a, b]) : decode code pc = .ok (.anewarray (a.toNat * 256 + b.toNat), 3) := dk_of ((dk_bind (dk_u1 (h 0 _ rfl))).trans ((dk_bind (dk_u2 (h 1 _ rfl) (h 2 _ rfl))).trans rfl))
theorem dk_190 {code : ByteArray} {pc : Nat} (h : DkAt code pc [190]) : decode code pc = .ok (.arraylength, 1) := dk_of ((dk_bind (dk_u1 (h 0 _ rfl))).trans rfl)
theorem dk_191 {code : ByteArray} {pc : Nat} (h : DkAt code pc [191]) : decode code pc = .ok (.athrow, 1) := dk_of ((dk_bind (dk_u1 (h 0 _ rfl))).trans rfl)
theorem dk_192 {code : ByteArray} {pc : Nat} (a b : UInt8) (h : DkAt code pc [192, a, b]) : decode code pc = .ok (.checkcast (a.toNat * 256 + b.toNat), 3) := dk_of ((dk_bind (dk_u1 (h 0 _ rfl))).trans ((dk_bind (dk_u2 (h 1 _ rfl) (h 2 _ rfl))).trans rfl))
theorem dk_193 {code : ByteArray} {pc : Nat} (a b : UInt8) (h : DkAt code pc [193, a, b]) : decode code pc = .ok (.instanceof (a.toNat * 256 + b.toNat), 3) := dk_of ((dk_bind (dk_u1 (h 0 _ rfl))).trans ((dk_bind (dk_u2 (h 1 _ rfl) (h 2 _ rfl))).trans rfl))
theorem dk_198 {code : ByteArray} {pc : Nat} (a b : UInt8) (h : DkAt code pc [198, a, b]) : decode code pc = .ok (.ifnull (Reader.signed 16 (a.toNat * 256 + b.toNat)), 3) := dk_of ((dk_bind (dk_u1 (h 0 _ rfl))).trans ((dk_bind (dk_map (dk_u2 (h 1 _ rfl) (h 2 _ rfl)))).trans rfl))
theorem dk_199 {code : ByteArray} {pc : Nat} (a b : UInt8) (h : DkAt code pc [199, a, b]) : decode code pc = .ok (.ifnonnull (Reader.signed 16 (a.toNat * 256 + b.toNat)), 3) := dk_of ((dk_bind (dk_u1 (h 0 _ rfl))).trans ((dk_bind (dk_map (dk_u2 (h 1 _ rfl) (h 2 _ rfl)))).trans rfl))
def am_k1 (l : List UInt8) (op len : Nat) : Bool := match l with
  | x :: _ => Nat.beq x.toNat op && Nat.beq len 1
  | _ => false
def am_k2 (l : List UInt8) (op len : Nat) (f : Nat → Bool) : Bool := match l with
  | x :: a :: _ => Nat.beq x.toNat op && Nat.beq len 2 && f a.toNat
  | _ => false
def am_k3 (l : List UInt8) (op len : Nat) (f : Nat → Nat → Bool) : Bool := match l with
  | x :: a :: b :: _ => Nat.beq x.toNat op && Nat.beq len 3 && f a.toNat b.toNat
  | _ => false
theorem am_u8 {x N : UInt8} {op : Nat} (hN : N.toNat = op) (h : Nat.beq x.toNat op = true) : x = N := by
  have := Nat.eq_of_beq_eq_true h
  exact UInt8.toNat_inj.mp (by rw [this, hN])
theorem am_k1_of {code : ByteArray} {pc op len : Nat} (N : UInt8) (hN : N.toNat = op) (h : am_k1 (code.data.toList.drop pc) op len = true) : DkAt code pc [N] ∧ len = 1 := by
  generalize hl : code.data.toList.drop pc = l at h
  match l, h with
  | x :: T, h =>
    simp only [am_k1, Bool.and_eq_true] at h
    have e := am_u8 hN h.1
    subst e
    exact ⟨dk_at (W := [x]) (T := T) (o := pc) hl 0 rfl (by simp [dkIn]), Nat.eq_of_beq_eq_true h.2⟩
theorem am_k2_of {code : ByteArray} {pc op len : Nat} {f : Nat → Bool} (N : UInt8) (hN : N.toNat = op) (h : am_k2 (code.data.toList.drop pc) op len f = true) : ∃ a : UInt8, DkAt code pc [N, a] ∧ len = 2 ∧ f a.toNat = true := by
  generalize hl : code.data.toList.drop pc = l at h
  match l, h with
  | x :: a :: T, h =>
    simp only [am_k2, Bool.and_eq_true] at h
    have e := am_u8 hN h.1.1
    subst e
    exact ⟨a, dk_at (W := [x, a]) (T := T) (o := pc) hl 0 rfl (by simp [dkIn]), Nat.eq_of_beq_eq_true h.1.2, h.2⟩
theorem am_k3_of {code : ByteArray} {pc op len : Nat} {f : Nat → Nat → Bool} (N : UInt8) (hN : N.toNat = op) (h : am_k3 (code.data.toList.drop pc) op len f = true) : ∃ a b : UInt8, DkAt code pc [N, a, b] ∧ len = 3 ∧ f a.toNat b.toNat = true := by
  generalize hl : code.data.toList.drop pc = l at h
  match l, h with
  | x :: a :: b :: T, h =>
    simp only [am_k3, Bool.and_eq_true] at h
    have e := am_u8 hN h.1.1
    subst e
    exact ⟨a, b, dk_at (W := [x, a, b]) (T := T) (o := pc) hl 0 rfl (by simp [dkIn]), Nat.eq_of_beq_eq_true h.1.2, h.2⟩
/-- the bytes l begin with the instruction i, of length len -/
def am_dk (l : List UInt8) (i : Instr) (len : Nat) : Bool := match i with
  | .aaload => am_k1 l 50 len
  | .aastore => am_k1 l 83 len
  | .aconst_null => am_k1 l 1 len
  | .aload v => am_k2 l 25 len (fun a => Nat.beq a v)
  | .aload_n ⟨0, _⟩ => am_k1 l 42 len
  | .aload_n ⟨1, _⟩ => am_k1 l 43 len
  | .aload_n ⟨2, _⟩ => am_k1 l 44 len
  | .aload_n ⟨3, _⟩ => am_k1 l 45 len
  | .anewarray v => am_k3 l 189 len (fun a b => Nat.beq (a * 256 + b) v)
  | .areturn => am_k1 l 176 len
  | .arraylength => am_k1 l 190 len
  | .astore v => am_k2 l 58 len (fun a => Nat.beq a v)
  | .astore_n ⟨0, _⟩ => false
  | .astore_n ⟨1, _⟩ => am_k1 l 76 len
  | .astore_n ⟨2, _⟩ => am_k1 l 77 len
  | .astore_n ⟨3, _⟩ => am_k1 l 78 len
  | .athrow => am_k1 l 191 len
  | .baload => am_k1 l 51 len
  | .bastore => am_k1 l 84 len
  | .bipush o => am_k2 l 16 len (fun a => decide (Reader.signed 8 a = o))
  | .checkcast v => am_k3 l 192 len (fun a b => Nat.beq (a * 256 + b) v)
  | .dup => am_k1 l 89 len
  | .dup2 => am_k1 l 92 len
  | .getfield v => am_k3 l 180 len (fun a b => Nat.beq (a * 256 + b) v)
  | .getstatic v => am_k3 l 178 len (fun a b => Nat.beq (a * 256 + b) v)
  | .goto o => am_k3 l 167 len (fun a b => decide (Reader.signed 16 (a * 256 + b) = o))
  | .i2c => am_k1 l 146 len
  | .i2l => am_k1 l 133 len
  | .iadd => am_k1 l 96 len
  | .iaload => am_k1 l 46 len
  | .iand => am_k1 l 126 len
  | .iastore => am_k1 l 79 len
  | .iconst v => decide (-1 ≤ v) && decide (v ≤ 5) && am_k1 l (v + 3).toNat len
  | .idiv => am_k1 l 108 len
  | .ifCond .eq o => am_k3 l 153 len (fun a b => decide (Reader.signed 16 (a * 256 + b) = o))
  | .ifCond .ne o => am_k3 l 154 len (fun a b => decide (Reader.signed 16 (a * 256 + b) = o))
  | .ifCond .lt o => am_k3 l 155 len (fun a b => decide (Reader.signed 16 (a * 256 + b) = o))
  | .ifCond .ge o => am_k3 l 156 len (fun a b => decide (Reader.signed 16 (a * 256 + b) = o))
  | .ifCond .gt o => am_k3 l 157 len (fun a b => decide (Reader.signed 16 (a * 256 + b) = o))
  | .ifCond .le o => am_k3 l 158 len (fun a b => decide (Reader.signed 16 (a * 256 + b) = o))
  | .if_acmp .eq o => false
  | .if_acmp .ne o => am_k3 l 166 len (fun a b => decide (Reader.signed 16 (a * 256 + b) = o))
  | .if_icmp .eq o => am_k3 l 159 len (fun a b => decide (Reader.signed 16 (a * 256 + b) = o))
  | .if_icmp .ne o => am_k3 l 160 len (fun a b => decide (Reader.signed 16 (a * 256 + b) = o))
  | .if_icmp .lt o => am_k3 l 161 len (fun a b => decide (Reader.signed 16 (a * 256 + b) = o))
  | .if_icmp .ge o => am_k3 l 162 len (fun a b => decide (Reader.signed 16 (a * 256 + b) = o))
  | .if_icmp .gt o => am_k3 l 163 len (fun a b => decide (Reader.signed 16 (a * 256 + b) = o))
  | .if_icmp .le o => am_k3 l 164 len (fun a b => decide (Reader.signed 16 (a * 256 + b) = o))
  | .ifnonnull o => am_k3 l 199 len (fun a b => decide (Reader.signed 16 (a * 256 + b) = o))
  | .ifnull o => am_k3 l 198 len (fun a b => decide (Reader.signed 16 (a * 256 + b) = o))
  | .iinc v o => am_k3 l 132 len (fun a b => Nat.beq a v && decide (Reader.signed 8 b = o))
  | .iload v => am_k2 l 21 len (fun a => Nat.beq a v)
  | .iload_n ⟨0, _⟩ => am_k1 l 26 len
  | .iload_n ⟨1, _⟩ => am_k1 l 27 len
  | .iload_n ⟨2, _⟩ => am_k1 l 28 len
  | .iload_n ⟨3, _⟩ => am_k1 l 29 len
  | .imul => am_k1 l 104 len
  | .ineg => am_k1 l 116 len
  | .instanceof v => am_k3 l 193 len (fun a b => Nat.beq (a * 256 + b) v)
  | .invokespecial v => am_k3 l 183 len (fun a b => Nat.beq (a * 256 + b) v)
  | .invokestatic v => am_k3 l 184 len (fun a b => Nat.beq (a * 256 + b) v)
  | .invokevirtual v => am_k3 l 182 len (fun a b => Nat.beq (a * 256 + b) v)
  | .ior => am_k1 l 128 len
  | .irem => am_k1 l 112 len
  | .ireturn => am_k1 l 172 len
  | .ishl => am_k1 l 120 len
  | .ishr => am_k1 l 122 len
  | .istore v => am_k2 l 54 len (fun a => Nat.beq a v)
  | .istore_n ⟨0, _⟩ => false
  | .istore_n ⟨1, _⟩ => am_k1 l 60 len
  | .istore_n ⟨2, _⟩ => am_k1 l 61 len
  | .istore_n ⟨3, _⟩ => am_k1 l 62 len
  | .isub => am_k1 l 100 len
  | .ixor => am_k1 l 130 len
  | .l2i => am_k1 l 136 len
  | .ladd => am_k1 l 97 len
  | .laload => am_k1 l 47 len
  | .land => am_k1 l 127 len
  | .lastore => am_k1 l 80 len
  | .lcmp => am_k1 l 148 len
  | .lconst ⟨0, _⟩ => am_k1 l 9 len
  | .lconst ⟨1, _⟩ => am_k1 l 10 len
  | .ldc v => am_k2 l 18 len (fun a => Nat.beq a v)
  | .ldc2_w v => am_k3 l 20 len (fun a b => Nat.beq (a * 256 + b) v)
  | .ldc_w v => am_k3 l 19 len (fun a b => Nat.beq (a * 256 + b) v)
  | .ldiv => am_k1 l 109 len
  | .lload v => am_k2 l 22 len (fun a => Nat.beq a v)
  | .lload_n ⟨0, _⟩ => am_k1 l 30 len
  | .lload_n ⟨1, _⟩ => am_k1 l 31 len
  | .lload_n ⟨2, _⟩ => am_k1 l 32 len
  | .lload_n ⟨3, _⟩ => am_k1 l 33 len
  | .lmul => am_k1 l 105 len
  | .lneg => am_k1 l 117 len
  | .lor => am_k1 l 129 len
  | .lrem => am_k1 l 113 len
  | .lreturn => am_k1 l 173 len
  | .lshl => am_k1 l 121 len
  | .lstore v => am_k2 l 55 len (fun a => Nat.beq a v)
  | .lstore_n ⟨0, _⟩ => false
  | .lstore_n ⟨1, _⟩ => false
  | .lstore_n ⟨2, _⟩ => false
  | .lstore_n ⟨3, _⟩ => am_k1 l 66 len
  | .lsub => am_k1 l 101 len
  | .lushr => am_k1 l 125 len
  | .new v => am_k3 l 187 len (fun a b => Nat.beq (a * 256 + b) v)
  | .pop => am_k1 l 87 len
  | .putfield v => am_k3 l 181 len (fun a b => Nat.beq (a * 256 + b) v)
  | .return_ => am_k1 l 177 len
  | .sipush o => am_k3 l 17 len (fun a b => decide (Reader.signed 16 (a * 256 + b) = o))
  | _ => false
set_option maxHeartbeats 4000000 in
theorem am_dk_ok {code : ByteArray} {pc len : Nat} {i : Instr} (h : am_dk (code.data.toList.drop pc) i len = true) : decode code pc = .ok (i, len) := by
  match i, h with
  | .aaload, h =>
    obtain ⟨h1, h2⟩ := am_k1_of 50 rfl h
    rw [h2]
    exact dk_50 h1
  | .aastore, h =>
    obtain ⟨h1, h2⟩ := am_k1_of 83 rfl h
    rw [h2]
    exact dk_83 h1
  | .aconst_null, h =>
    obtain ⟨h1, h2⟩ := am_k1_of 1 rfl h
    rw [h2]
    exact dk_1 h1
  | .aload v, h =>
    obtain ⟨a, h1, h2, h3⟩ := am_k2_of (op := 25) (f := fun a => Nat.beq a v) 25 rfl h
    rw [h2, ← Nat.eq_of_beq_eq_true h3]
    exact dk_25 a h1
  | .aload_n ⟨0, _⟩, h =>
    obtain ⟨h1, h2⟩ := am_k1_of 42 rfl h
    rw [h2]
    exact dk_42 h1
  | .aload_n ⟨1, _⟩, h =>
    obtain ⟨h1, h2⟩ := am_k1_of 43 rfl h
    rw [h2]
    exact dk_43 h1
  | .aload_n ⟨2, _⟩, h =>
    obtain ⟨h1, h2⟩ := am_k1_of 44 rfl h
    rw [h2]
    exact dk_44 h1
  | .aload_n ⟨3, _⟩, h =>
    obtain ⟨h1, h2⟩ := am_k1_of 45 rfl h
    rw [h2]
    exact dk_45 h1
  | .anewarray v, h =>
    obtain ⟨a, b, h1, h2, h3⟩ := am_k3_of (op := 189) (f := fun a b => Nat.beq (a * 256 + b) v) 189 rfl h
    rw [h2, ← Nat.eq_of_beq_eq_true h3]
    exact dk_189 a b h1
  | .areturn, h =>
    obtain ⟨h1, h2⟩ := am_k1_of 176 rfl h
    rw [h2]
    exact dk_176 h1
  | .arraylength, h =>
    obtain ⟨h1, h2⟩ := am_k1_of 190 rfl h
    rw [h2]
    exact dk_190 h1
  | .astore v, h =>
    obtain ⟨a, h1, h2, h3⟩ := am_k2_of (op := 58) (f := fun a => Nat.beq a v) 58 rfl h
    rw [h2, ← Nat.eq_of_beq_eq_true h3]
    exact dk_58 a h1
  | .astore_n ⟨0, _⟩, h => exact absurd h (by simp [am_dk])
  | .astore_n ⟨1, _⟩, h =>
    obtain ⟨h1, h2⟩ := am_k1_of 76 rfl h
    rw [h2]
    exact dk_76 h1
  | .astore_n ⟨2, _⟩, h =>
    obtain ⟨h1, h2⟩ := am_k1_of 77 rfl h
    rw [h2]
    exact dk_77 h1
  | .astore_n ⟨3, _⟩, h =>
    obtain ⟨h1, h2⟩ := am_k1_of 78 rfl h
    rw [h2]
    exact dk_78 h1
  | .athrow, h =>
    obtain ⟨h1, h2⟩ := am_k1_of 191 rfl h
    rw [h2]
    exact dk_191 h1
  | .baload, h =>
    obtain ⟨h1, h2⟩ := am_k1_of 51 rfl h
    rw [h2]
    exact dk_51 h1
  | .bastore, h =>
    obtain ⟨h1, h2⟩ := am_k1_of 84 rfl h
    rw [h2]
    exact dk_84 h1
  | .bipush o, h =>
    obtain ⟨a, h1, h2, h3⟩ := am_k2_of (op := 16) (f := fun a => decide (Reader.signed 8 a = o)) 16 rfl h
    rw [h2, ← of_decide_eq_true h3]
    exact dk_16 a h1
  | .checkcast v, h =>
    obtain ⟨a, b, h1, h2, h3⟩ := am_k3_of (op := 192) (f := fun a b => Nat.beq (a * 256 + b) v) 192 rfl h
    rw [h2, ← Nat.eq_of_beq_eq_true h3]
    exact dk_192 a b h1
  | .dup, h =>
    obtain ⟨h1, h2⟩ := am_k1_of 89 rfl h
    rw [h2]
    exact dk_89 h1
  | .dup2, h =>
    obtain ⟨h1, h2⟩ := am_k1_of 92 rfl h
    rw [h2]
    exact dk_92 h1
  | .getfield v, h =>
    obtain ⟨a, b, h1, h2, h3⟩ := am_k3_of (op := 180) (f := fun a b => Nat.beq (a * 256 + b) v) 180 rfl h
    rw [h2, ← Nat.eq_of_beq_eq_true h3]
    exact dk_180 a b h1
  | .getstatic v, h =>
    obtain ⟨a, b, h1, h2, h3⟩ := am_k3_of (op := 178) (f := fun a b => Nat.beq (a * 256 + b) v) 178 rfl h
    rw [h2, ← Nat.eq_of_beq_eq_true h3]
    exact dk_178 a b h1
  | .goto o, h =>
    obtain ⟨a, b, h1, h2, h3⟩ := am_k3_of (op := 167) (f := fun a b => decide (Reader.signed 16 (a * 256 + b) = o)) 167 rfl h
    rw [h2, ← of_decide_eq_true h3]
    exact dk_167 a b h1
  | .i2c, h =>
    obtain ⟨h1, h2⟩ := am_k1_of 146 rfl h
    rw [h2]
    exact dk_146 h1
  | .i2l, h =>
    obtain ⟨h1, h2⟩ := am_k1_of 133 rfl h
    rw [h2]
    exact dk_133 h1
  | .iadd, h =>
    obtain ⟨h1, h2⟩ := am_k1_of 96 rfl h
    rw [h2]
    exact dk_96 h1
  | .iaload, h =>
    obtain ⟨h1, h2⟩ := am_k1_of 46 rfl h
    rw [h2]
    exact dk_46 h1
  | .iand, h =>
    obtain ⟨h1, h2⟩ := am_k1_of 126 rfl h
    rw [h2]
    exact dk_126 h1
  | .iastore, h =>
    obtain ⟨h1, h2⟩ := am_k1_of 79 rfl h
    rw [h2]
    exact dk_79 h1
  | .iconst v, h =>
    simp only [am_dk, Bool.and_eq_true, decide_eq_true_eq] at h
    have hv : v = -1 ∨ v = 0 ∨ v = 1 ∨ v = 2 ∨ v = 3 ∨ v = 4 ∨ v = 5 := by omega
    rcases hv with rfl | rfl | rfl | rfl | rfl | rfl | rfl
    · obtain ⟨h1, h2⟩ := am_k1_of 2 rfl h.2
      rw [h2]
      exact dk_2 h1
    · obtain ⟨h1, h2⟩ := am_k1_of 3 rfl h.2
      rw [h2]
      exact dk_3 h1
    · obtain ⟨h1, h2⟩ := am_k1_of 4 rfl h.2
      rw [h2]
      exact dk_4 h1
    · obtain ⟨h1, h2⟩ := am_k1_of 5 rfl h.2
      rw [h2]
      exact dk_5 h1
    · obtain ⟨h1, h2⟩ := am_k1_of 6 rfl h.2
      rw [h2]
      exact dk_6 h1
    · obtain ⟨h1, h2⟩ := am_k1_of 7 rfl h.2
      rw [h2]
      exact dk_7 h1
    · obtain ⟨h1, h2⟩ := am_k1_of 8 rfl h.2
      rw [h2]
      exact dk_8 h1
  | .idiv, h =>
    obtain ⟨h1, h2⟩ := am_k1_of 108 rfl h
    rw [h2]
    exact dk_108 h1
  | .ifCond .eq o, h =>
    obtain ⟨a, b, h1, h2, h3⟩ := am_k3_of (op := 153) (f := fun a b => decide (Reader.signed 16 (a * 256 + b) = o)) 153 rfl h
    rw [h2, ← of_decide_eq_true h3]
    exact dk_153 a b h1
  | .ifCond .ne o, h =>
    obtain ⟨a, b, h1, h2, h3⟩ := am_k3_of (op := 154) (f := fun a b => decide (Reader.signed 16 (a * 256 + b) = o)) 154 rfl h
    rw [h2, ← of_decide_eq_true h3]
    exact dk_154 a b h1
  | .ifCond .lt o, h =>
    obtain ⟨a, b, h1, h2, h3⟩ := am_k3_of (op := 155) (f := fun a b => decide (Reader.signed 16 (a * 256 + b) = o)) 155 rfl h
    rw [h2, ← of_decide_eq_true h3]
    exact dk_155 a b h1
  | .ifCond .ge o, h =>
    obtain ⟨a, b, h1, h2, h3⟩ := am_k3_of (op := 156) (f := fun a b => decide (Reader.signed 16 (a * 256 + b) = o)) 156 rfl h
    rw [h2, ← of_decide_eq_true h3]
    exact dk_156 a b h1
  | .ifCond .gt o, h =>
    obtain ⟨a, b, h1, h2, h3⟩ := am_k3_of (op := 157) (f := fun a b => decide (Reader.signed 16 (a * 256 + b) = o)) 157 rfl h
    rw [h2, ← of_decide_eq_true h3]
    exact dk_157 a b h1
  | .ifCond .le o, h =>
    obtain ⟨a, b, h1, h2, h3⟩ := am_k3_of (op := 158) (f := fun a b => decide (Reader.signed 16 (a * 256 + b) = o)) 158 rfl h
    rw [h2, ← of_decide_eq_true h3]
    exact dk_158 a b h1
  | .if_acmp .eq o, h => exact absurd h (by simp [am_dk])
  | .if_acmp .ne o, h =>
    obtain ⟨a, b, h1, h2, h3⟩ := am_k3_of (op := 166) (f := fun a b => decide (Reader.signed 16 (a * 256 + b) = o)) 166 rfl h
    rw [h2, ← of_decide_eq_true h3]
    exact dk_166 a b h1
  | .if_icmp .eq o, h =>
    obtain ⟨a, b, h1, h2, h3⟩ := am_k3_of (op := 159) (f := fun a b => decide (Reader.signed 16 (a * 256 + b) = o)) 159 rfl h
    rw [h2, ← of_decide_eq_true h3]
    exact dk_159 a b h1
  | .if_icmp .ne o, h =>
    obtain ⟨a, b, h1, h2, h3⟩ := am_k3_of (op := 160) (f := fun a b => decide (Reader.signed 16 (a * 256 + b) = o)) 160 rfl h
    rw [h2, ← of_decide_eq_true h3]
    exact dk_160 a b h1
  | .if_icmp .lt o, h =>
    obtain ⟨a, b, h1, h2, h3⟩ := am_k3_of (op := 161) (f := fun a b => decide (Reader.signed 16 (a * 256 + b) = o)) 161 rfl h
    rw [h2, ← of_decide_eq_true h3]
    exact dk_161 a b h1
  | .if_icmp .ge o, h =>
    obtain ⟨a, b, h1, h2, h3⟩ := am_k3_of (op := 162) (f := fun a b => decide (Reader.signed 16 (a * 256 + b) = o)) 162 rfl h
    rw [h2, ← of_decide_eq_true h3]
    exact dk_162 a b h1
  | .if_icmp .gt o, h =>
    obtain ⟨a, b, h1, h2, h3⟩ := am_k3_of (op := 163) (f := fun a b => decide (Reader.signed 16 (a * 256 + b) = o)) 163 rfl h
    rw [h2, ← of_decide_eq_true h3]
    exact dk_163 a b h1
  | .if_icmp .le o, h =>
    obtain ⟨a, b, h1, h2, h3⟩ := am_k3_of (op := 164) (f := fun a b => decide (Reader.signed 16 (a * 256 + b) = o)) 164 rfl h
    rw [h2, ← of_decide_eq_true h3]
    exact dk_164 a b h1
  | .ifnonnull o, h =>
    obtain ⟨a, b, h1, h2, h3⟩ := am_k3_of (op := 199) (f := fun a b => decide (Reader.signed 16 (a * 256 + b) = o)) 199 rfl h
    rw [h2, ← of_decide_eq_true h3]
    exact dk_199 a b h1
  | .ifnull o, h =>
    obtain ⟨a, b, h1, h2, h3⟩ := am_k3_of (op := 198) (f := fun a b => decide (Reader.signed 16 (a * 256 + b) = o)) 198 rfl h
    rw [h2, ← of_decide_eq_true h3]
    exact dk_198 a b h1
  | .iinc v o, h =>
    obtain ⟨a, b, h1, h2, h3⟩ := am_k3_of (op := 132) (f := fun a b => Nat.beq a v && decide (Reader.signed 8 b = o)) 132 rfl h
    simp only [Bool.and_eq_true] at h3
    rw [h2, ← Nat.eq_of_beq_eq_true h3.1, ← of_decide_eq_true h3.2]
    exact dk_132 a b h1
  | .iload v, h =>
    obtain ⟨a, h1, h2, h3⟩ := am_k2_of (op := 21) (f := fun a => Nat.beq a v) 21 rfl h
    rw [h2, ← Nat.eq_of_beq_eq_true h3]
    exact dk_21 a h1
  | .iload_n ⟨0, _⟩, h =>
    obtain ⟨h1, h2⟩ := am_k1_of 26 rfl h
    rw [h2]
    exact dk_26 h1
  | .iload_n ⟨1, _⟩, h =>
    obtain ⟨h1, h2⟩ := am_k1_of 27 rfl h
    rw [h2]
    exact dk_27 h1
  | .iload_n ⟨2, _⟩, h =>
    obtain ⟨h1, h2⟩ := am_k1_of 28 rfl h
    rw [h2]
    exact dk_28 h1
  | .iload_n ⟨3, _⟩, h =>
    obtain ⟨h1, h2⟩ := am_k1_of 29 rfl h
    rw [h2]
    exact dk_29 h1
  | .imul, h =>
    obtain ⟨h1, h2⟩ := am_k1_of 104 rfl h
    rw [h2]
    exact dk_104 h1
  | .ineg, h =>
    obtain ⟨h1, h2⟩ := am_k1_of 116 rfl h
    rw [h2]
    exact dk_116 h1
  | .instanceof v, h =>
    obtain ⟨a, b, h1, h2, h3⟩ := am_k3_of (op := 193) (f := fun a b => Nat.beq (a * 256 + b) v) 193 rfl h
    rw [h2, ← Nat.eq_of_beq_eq_true h3]
    exact dk_193 a b h1
  | .invokespecial v, h =>
    obtain ⟨a, b, h1, h2, h3⟩ := am_k3_of (op := 183) (f := fun a b => Nat.beq (a * 256 + b) v) 183 rfl h
    rw [h2, ← Nat.eq_of_beq_eq_true h3]
    exact dk_183 a b h1
  | .invokestatic v, h =>
    obtain ⟨a, b, h1, h2, h3⟩ := am_k3_of (op := 184) (f := fun a b => Nat.beq (a * 256 + b) v) 184 rfl h
    rw [h2, ← Nat.eq_of_beq_eq_true h3]
    exact dk_184 a b h1
  | .invokevirtual v, h =>
    obtain ⟨a, b, h1, h2, h3⟩ := am_k3_of (op := 182) (f := fun a b => Nat.beq (a * 256 + b) v) 182 rfl h
    rw [h2, ← Nat.eq_of_beq_eq_true h3]
    exact dk_182 a b h1
  | .ior, h =>
    obtain ⟨h1, h2⟩ := am_k1_of 128 rfl h
    rw [h2]
    exact dk_128 h1
  | .irem, h =>
    obtain ⟨h1, h2⟩ := am_k1_of 112 rfl h
    rw [h2]
    exact dk_112 h1
  | .ireturn, h =>
    obtain ⟨h1, h2⟩ := am_k1_of 172 rfl h
    rw [h2]
    exact dk_172 h1
  | .ishl, h =>
    obtain ⟨h1, h2⟩ := am_k1_of 120 rfl h
    rw [h2]
    exact dk_120 h1
  | .ishr, h =>
    obtain ⟨h1, h2⟩ := am_k1_of 122 rfl h
    rw [h2]
    exact dk_122 h1
  | .istore v, h =>
    obtain ⟨a, h1, h2, h3⟩ := am_k2_of (op := 54) (f := fun a => Nat.beq a v) 54 rfl h
    rw [h2, ← Nat.eq_of_beq_eq_true h3]
    exact dk_54 a h1
  | .istore_n ⟨0, _⟩, h => exact absurd h (by simp [am_dk])
  | .istore_n ⟨1, _⟩, h =>
    obtain ⟨h1, h2⟩ := am_k1_of 60 rfl h
    rw [h2]
    exact dk_60 h1
  | .istore_n ⟨2, _⟩, h =>
    obtain ⟨h1, h2⟩ := am_k1_of 61 rfl h
    rw [h2]
    exact dk_61 h1
  | .istore_n ⟨3, _⟩, h =>
    obtain ⟨h1, h2⟩ := am_k1_of 62 rfl h
    rw [h2]
    exact dk_62 h1
  | .isub, h =>
    obtain ⟨h1, h2⟩ := am_k1_of 100 rfl h
    rw [h2]
    exact dk_100 h1
  | .ixor, h =>
    obtain ⟨h1, h2⟩ := am_k1_of 130 rfl h
    rw [h2]
    exact dk_130 h1
  | .l2i, h =>
    obtain ⟨h1, h2⟩ := am_k1_of 136 rfl h
    rw [h2]
    exact dk_136 h1
  | .ladd, h =>
    obtain ⟨h1, h2⟩ := am_k1_of 97 rfl h
    rw [h2]
    exact dk_97 h1
  | .laload, h =>
    obtain ⟨h1, h2⟩ := am_k1_of 47 rfl h
    rw [h2]
    exact dk_47 h1
  | .land, h =>
    obtain ⟨h1, h2⟩ := am_k1_of 127 rfl h
    rw [h2]
    exact dk_127 h1
  | .lastore, h =>
    obtain ⟨h1, h2⟩ := am_k1_of 80 rfl h
    rw [h2]
    exact dk_80 h1
  | .lcmp, h =>
    obtain ⟨h1, h2⟩ := am_k1_of 148 rfl h
    rw [h2]
    exact dk_148 h1
  | .lconst ⟨0, _⟩, h =>
    obtain ⟨h1, h2⟩ := am_k1_of 9 rfl h
    rw [h2]
    exact dk_9 h1
  | .lconst ⟨1, _⟩, h =>
    obtain ⟨h1, h2⟩ := am_k1_of 10 rfl h
    rw [h2]
    exact dk_10 h1
  | .ldc v, h =>
    obtain ⟨a, h1, h2, h3⟩ := am_k2_of (op := 18) (f := fun a => Nat.beq a v) 18 rfl h
    rw [h2, ← Nat.eq_of_beq_eq_true h3]
    exact dk_18 a h1
  | .ldc2_w v, h =>
    obtain ⟨a, b, h1, h2, h3⟩ := am_k3_of (op := 20) (f := fun a b => Nat.beq (a * 256 + b) v) 20 rfl h
    rw [h2, ← Nat.eq_of_beq_eq_true h3]
    exact dk_20 a b h1
  | .ldc_w v, h =>
    obtain ⟨a, b, h1, h2, h3⟩ := am_k3_of (op := 19) (f := fun a b => Nat.beq (a * 256 + b) v) 19 rfl h
    rw [h2, ← Nat.eq_of_beq_eq_true h3]
    exact dk_19 a b h1
  | .ldiv, h =>
    obtain ⟨h1, h2⟩ := am_k1_of 109 rfl h
    rw [h2]
    exact dk_109 h1
  | .lload v, h =>
    obtain ⟨a, h1, h2, h3⟩ := am_k2_of (op := 22) (f := fun a => Nat.beq a v) 22 rfl h
    rw [h2, ← Nat.eq_of_beq_eq_true h3]
    exact dk_22 a h1
  | .lload_n ⟨0, _⟩, h =>
    obtain ⟨h1, h2⟩ := am_k1_of 30 rfl h
    rw [h2]
    exact dk_30 h1
  | .lload_n ⟨1, _⟩, h =>
    obtain ⟨h1, h2⟩ := am_k1_of 31 rfl h
    rw [h2]
    exact dk_31 h1
  | .lload_n ⟨2, _⟩, h =>
    obtain ⟨h1, h2⟩ := am_k1_of 32 rfl h
    rw [h2]
    exact dk_32 h1
  | .lload_n ⟨3, _⟩, h =>
    obtain ⟨h1, h2⟩ := am_k1_of 33 rfl h
    rw [h2]
    exact dk_33 h1
  | .lmul, h =>
    obtain ⟨h1, h2⟩ := am_k1_of 105 rfl h
    rw [h2]
    exact dk_105 h1
  | .lneg, h =>
    obtain ⟨h1, h2⟩ := am_k1_of 117 rfl h
    rw [h2]
    exact dk_117 h1
  | .lor, h =>
    obtain ⟨h1, h2⟩ := am_k1_of 129 rfl h
    rw [h2]
    exact dk_129 h1
  | .lrem, h =>
    obtain ⟨h1, h2⟩ := am_k1_of 113 rfl h
    rw [h2]
    exact dk_113 h1
  | .lreturn, h =>
    obtain ⟨h1, h2⟩ := am_k1_of 173 rfl h
    rw [h2]
    exact dk_173 h1
  | .lshl, h =>
    obtain ⟨h1, h2⟩ := am_k1_of 121 rfl h
    rw [h2]
    exact dk_121 h1
  | .lstore v, h =>
    obtain ⟨a, h1, h2, h3⟩ := am_k2_of (op := 55) (f := fun a => Nat.beq a v) 55 rfl h
    rw [h2, ← Nat.eq_of_beq_eq_true h3]
    exact dk_55 a h1
  | .lstore_n ⟨0, _⟩, h => exact absurd h (by simp [am_dk])
  | .lstore_n ⟨1, _⟩, h => exact absurd h (by simp [am_dk])
  | .lstore_n ⟨2, _⟩, h => exact absurd h (by simp [am_dk])
  | .lstore_n ⟨3, _⟩, h =>
    obtain ⟨h1, h2⟩ := am_k1_of 66 rfl h
    rw [h2]
    exact dk_66 h1
  | .lsub, h =>
    obtain ⟨h1, h2⟩ := am_k1_of 101 rfl h
    rw [h2]
    exact dk_101 h1
  | .lushr, h =>
    obtain ⟨h1, h2⟩ := am_k1_of 125 rfl h
    rw [h2]
    exact dk_125 h1
  | .new v, h =>
    obtain ⟨a, b, h1, h2, h3⟩ := am_k3_of (op := 187) (f := fun a b => Nat.beq (a * 256 + b) v) 187 rfl h
    rw [h2, ← Nat.eq_of_beq_eq_true h3]
    exact dk_187 a b h1
  | .pop, h =>
    obtain ⟨h1, h2⟩ := am_k1_of 87 rfl h
    rw [h2]
    exact dk_87 h1
  | .putfield v, h =>
    obtain ⟨a, b, h1, h2, h3⟩ := am_k3_of (op := 181) (f := fun a b => Nat.beq (a * 256 + b) v) 181 rfl h
    rw [h2, ← Nat.eq_of_beq_eq_true h3]
    exact dk_181 a b h1
  | .return_, h =>
    obtain ⟨h1, h2⟩ := am_k1_of 177 rfl h
    rw [h2]
    exact dk_177 h1
  | .sipush o, h =>
    obtain ⟨a, b, h1, h2, h3⟩ := am_k3_of (op := 17) (f := fun a b => decide (Reader.signed 16 (a * 256 + b) = o)) 17 rfl h
    rw [h2, ← of_decide_eq_true h3]
    exact dk_17 a b h1
/-- an instruction whose row is proved by itself -/
def am_odd (i : Instr) : Bool := match i with
  | .tableswitch _ _ _ _ => true
  | .lookupswitch _ _ => true
  | .newarray _ => true
  | .invokeinterface _ _ => true
  | _ => false
def am_walk (l : List UInt8) : Nat → List aE → Bool
  | _, [] => true
  | pc, e :: r => Nat.beq e.1 pc && (am_odd e.2.1 || am_dk l e.2.1 e.2.2.1) && am_walk (l.drop e.2.2.1) (pc + e.2.2.1) r
theorem am_walk_ok {code : ByteArray} : ∀ (es : List aE) (pc : Nat), am_walk (code.data.toList.drop pc) pc es = true → ∀ e ∈ es, am_odd e.2.1 = true ∨ decode code e.1 = .ok (e.2.1, e.2.2.1) := by
  intro es
  induction es with
  | nil => intro pc _ e he; cases he
  | cons x r ih =>
    intro pc h e he
    simp only [am_walk, Bool.and_eq_true, Bool.or_eq_true] at h
    rcases List.mem_cons.mp he with rfl | he
    · have e1 := Nat.eq_of_beq_eq_true h.1.1
      rcases h.1.2 with h2 | h2
      · exact Or.inl h2
      · exact Or.inr (by rw [e1]; exact am_dk_ok h2)
    · refine ih (pc + x.2.2.1) ?_ e he
      rw [← List.drop_drop]
      exact h.2
