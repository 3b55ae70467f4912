/-! DECODE ROWS BY BYTES: one lemma an opcode; a method's code is cut into short pieces once, and a row reads its own piece alone. -/
set_option maxRecDepth 100000
/-- the code has just these bytes from pc on -/
def DkAt (code : ByteArray) (pc : Nat) (bs : List UInt8) : Prop := ∀ (j : Nat) (b : UInt8), bs[j]? = some b → code.data.toList[pc + j]? = some b
/-- the piece W has the bytes bs from its place j on -/
def dkIn (W : List UInt8) (j : Nat) (bs : List UInt8) : Bool := decide ((W.drop j).take bs.length = bs)
theorem dk_seg {l W T : List UInt8} {o o2 : Nat} (h : l.drop o = W ++ T) (n : Nat) (hn : W.length = n) (ho : o + n = o2) : l.drop o2 = T := by
  subst ho
  rw [← List.drop_drop, h, List.drop_left' hn]
theorem dk_at {code : ByteArray} {W T bs : List UInt8} {o pc : Nat} (h : code.data.toList.drop o = W ++ T) (j : Nat) (hp : o + j = pc) (hw : dkIn W j bs = true) : DkAt code pc bs := by
  subst hp
  intro i b e
  have h1 := of_decide_eq_true hw
  have h2 : i < bs.length := (List.getElem?_eq_some_iff.mp e).1
  have h3 : W[j + i]? = some b := by
    rw [← h1, List.getElem?_take, if_pos h2, List.getElem?_drop] at e
    exact e
  have h4 : j + i < W.length := (List.getElem?_eq_some_iff.mp h3).1
  have h5 : (code.data.toList.drop o)[j + i]? = some b := by
    rw [h, List.getElem?_append_left h4]
    exact h3
  rw [List.getElem?_drop, ← Nat.add_assoc] at h5
  exact h5
theorem dk_u1 {A : ByteArray} {p : Nat} {b : UInt8} (h : A.data.toList[p]? = some b) : (Reader.u1 : Reader DecodeError Nat) A p = .ok (b.toNat, p + 1) := by
  obtain ⟨h1, h2⟩ := List.getElem?_eq_some_iff.mp h
  have h3 : p < A.size := by simpa using h1
  have h4 : A[p]'h3 = b := h2
  have e : (Reader.u1 : Reader DecodeError Nat) A p = (if h : p < A.size then .ok (A[p].toNat, p + 1) else .error (HasTruncated.truncated p)) := by
    show (do if h : p < A.size then do set (p + 1); Pure.pure A[p].toNat else MonadExcept.throw (HasTruncated.truncated p) : Reader DecodeError Nat) A p = _
    by_cases hi : p < A.size
    · rw [dif_pos hi, dif_pos hi]; rfl
    · rw [dif_neg hi, dif_neg hi]; rfl
  rw [e, dif_pos h3, h4]
theorem dk_bind {α β : Type} {r : Reader DecodeError α} {f : α → Reader DecodeError β} {A : ByteArray} {p s : Nat} {a : α} (h : r A p = .ok (a, s)) : (r >>= f) A p = f a A s := by
  show (do let (a, s) ← r A p; f a A s : Except DecodeError (β × Nat)) = _
  rw [h]
  rfl
theorem dk_map {α β : Type} {r : Reader DecodeError α} {g : α → β} {A : ByteArray} {p s : Nat} {a : α} (h : r A p = .ok (a, s)) : (g <$> r) A p = .ok (g a, s) := by
  show (do let (a, s) ← r A p; .ok (g a, s) : Except DecodeError (β × Nat)) = _
  rw [h]
  rfl
theorem dk_u2 {A : ByteArray} {p : Nat} {a b : UInt8} (h : A.data.toList[p]? = some a) (h2 : A.data.toList[p + 1]? = some b) : (Reader.u2 : Reader DecodeError Nat) A p = .ok (a.toNat * 256 + b.toNat, p + 2) := by
  show (Reader.u1 >>= fun hi => Reader.u1 >>= fun lo => Pure.pure (hi * 256 + lo) : Reader DecodeError Nat) A p = _
  rw [dk_bind (dk_u1 h), dk_bind (dk_u1 h2)]
  rfl
theorem dk_of {code : ByteArray} {pc n : Nat} {i : Instr} (h : Decoder.instr pc code pc = .ok (i, pc + n)) : decode code pc = .ok (i, n) := by
  have e : decode code pc = (match Decoder.instr pc code pc with | .error x => .error x | .ok (j, s) => .ok (j, s - pc)) := by
    show (do let (j, s) ← Decoder.instr pc code pc; Pure.pure (j, s - pc) : Except DecodeError (Instr × Nat)) = _
    cases Decoder.instr pc code pc <;> rfl
  rw [e, h]
  show Except.ok (i, pc + n - pc) = _
  rw [Nat.add_sub_cancel_left]
theorem dk_2 {code : ByteArray} {pc : Nat} (h : DkAt code pc [2]) : decode code pc = .ok (.iconst (-1), 1) := dk_of ((dk_bind (dk_u1 (h 0 _ rfl))).trans rfl)
theorem dk_3 {code : ByteArray} {pc : Nat} (h : DkAt code pc [3]) : decode code pc = .ok (.iconst 0, 1) := dk_of ((dk_bind (dk_u1 (h 0 _ rfl))).trans rfl)
theorem dk_4 {code : ByteArray} {pc : Nat} (h : DkAt code pc [4]) : decode code pc = .ok (.iconst 1, 1) := dk_of ((dk_bind (dk_u1 (h 0 _ rfl))).trans rfl)
theorem dk_5 {code : ByteArray} {pc : Nat} (h : DkAt code pc [5]) : decode code pc = .ok (.iconst 2, 1) := dk_of ((dk_bind (dk_u1 (h 0 _ rfl))).trans rfl)
theorem dk_6 {code : ByteArray} {pc : Nat} (h : DkAt code pc [6]) : decode code pc = .ok (.iconst 3, 1) := dk_of ((dk_bind (dk_u1 (h 0 _ rfl))).trans rfl)
theorem dk_7 {code : ByteArray} {pc : Nat} (h : DkAt code pc [7]) : decode code pc = .ok (.iconst 4, 1) := dk_of ((dk_bind (dk_u1 (h 0 _ rfl))).trans rfl)
theorem dk_8 {code : ByteArray} {pc : Nat} (h : DkAt code pc [8]) : decode code pc = .ok (.iconst 5, 1) := dk_of ((dk_bind (dk_u1 (h 0 _ rfl))).trans rfl)
theorem dk_9 {code : ByteArray} {pc : Nat} (h : DkAt code pc [9]) : decode code pc = .ok (.lconst 0, 1) := dk_of ((dk_bind (dk_u1 (h 0 _ rfl))).trans rfl)
theorem dk_10 {code : ByteArray} {pc : Nat} (h : DkAt code pc [10]) : decode code pc = .ok (.lconst 1, 1) := dk_of ((dk_bind (dk_u1 (h 0 _ rfl))).trans rfl)
theorem dk_16 {code : ByteArray} {pc : Nat} (a : UInt8) (h : DkAt code pc [16, a]) : decode code pc = .ok (.bipush (Reader.signed 8 a.toNat), 2) := dk_of ((dk_bind (dk_u1 (h 0 _ rfl))).trans ((dk_bind (dk_map (dk_u1 (h 1 _ rfl)))).trans rfl))
theorem dk_17 {code : ByteArray} {pc : Nat} (a b : UInt8) (h : DkAt code pc [17, a, b]) : decode code pc = .ok (.sipush (Reader.signed 16 (a.toNat * 256 + b.toNat)), 3) := dk_of ((dk_bind (dk_u1 (h 0 _ rfl))).trans ((dk_bind (dk_map (dk_u2 (h 1 _ rfl) (h 2 _ rfl)))).trans rfl))
theorem dk_18 {code : ByteArray} {pc : Nat} (a : UInt8) (h : DkAt code pc [18, a]) : decode code pc = .ok (.ldc a.toNat, 2) := dk_of ((dk_bind (dk_u1 (h 0 _ rfl))).trans ((dk_bind (dk_u1 (h 1 _ rfl))).trans rfl))
theorem dk_19 {code : ByteArray} {pc : Nat} (a b : UInt8) (h : DkAt code pc [19, a, b]) : decode code pc = .ok (.ldc_w (a.toNat * 256 + b.toNat), 3) := dk_of ((dk_bind (dk_u1 (h 0 _ rfl))).trans ((dk_bind (dk_u2 (h 1 _ rfl) (h 2 _ rfl))).trans rfl))
theorem dk_20 {code : ByteArray} {pc : Nat} (a b : UInt8) (h : DkAt code pc [20, a, b]) : decode code pc = .ok (.ldc2_w (a.toNat * 256 + b.toNat), 3) := dk_of ((dk_bind (dk_u1 (h 0 _ rfl))).trans ((dk_bind (dk_u2 (h 1 _ rfl) (h 2 _ rfl))).trans rfl))
theorem dk_21 {code : ByteArray} {pc : Nat} (a : UInt8) (h : DkAt code pc [21, a]) : decode code pc = .ok (.iload a.toNat, 2) := dk_of ((dk_bind (dk_u1 (h 0 _ rfl))).trans ((dk_bind (dk_u1 (h 1 _ rfl))).trans rfl))
theorem dk_22 {code : ByteArray} {pc : Nat} (a : UInt8) (h : DkAt code pc [22, a]) : decode code pc = .ok (.lload a.toNat, 2) := dk_of ((dk_bind (dk_u1 (h 0 _ rfl))).trans ((dk_bind (dk_u1 (h 1 _ rfl))).trans rfl))
theorem dk_25 {code : ByteArray} {pc : Nat} (a : UInt8) (h : DkAt code pc [25, a]) : decode code pc = .ok (.aload a.toNat, 2) := dk_of ((dk_bind (dk_u1 (h 0 _ rfl))).trans ((dk_bind (dk_u1 (h 1 _ rfl))).trans rfl))
theorem dk_26 {code : ByteArray} {pc : Nat} (h : DkAt code pc [26]) : decode code pc = .ok (.iload_n 0, 1) := dk_of ((dk_bind (dk_u1 (h 0 _ rfl))).trans rfl)
theorem dk_27 {code : ByteArray} {pc : Nat} (h : DkAt code pc [27]) : decode code pc = .ok (.iload_n 1, 1) := dk_of ((dk_bind (dk_u1 (h 0 _ rfl))).trans rfl)
theorem dk_28 {code : ByteArray} {pc : Nat} (h : DkAt code pc [28]) : decode code pc = .ok (.iload_n 2, 1) := dk_of ((dk_bind (dk_u1 (h 0 _ rfl))).trans rfl)
theorem dk_29 {code : ByteArray} {pc : Nat} (h : DkAt code pc [29]) : decode code pc = .ok (.iload_n 3, 1) := dk_of ((dk_bind (dk_u1 (h 0 _ rfl))).trans rfl)
theorem dk_30 {code : ByteArray} {pc : Nat} (h : DkAt code pc [30]) : decode code pc = .ok (.lload_n 0, 1) := dk_of ((dk_bind (dk_u1 (h 0 _ rfl))).trans rfl)
theorem dk_32 {code : ByteArray} {pc : Nat} (h : DkAt code pc [32]) : decode code pc = .ok (.lload_n 2, 1) := dk_of ((dk_bind (dk_u1 (h 0 _ rfl))).trans rfl)
theorem dk_42 {code : ByteArray} {pc : Nat} (h : DkAt code pc [42]) : decode code pc = .ok (.aload_n 0, 1) := dk_of ((dk_bind (dk_u1 (h 0 _ rfl))).trans rfl)
theorem dk_43 {code : ByteArray} {pc : Nat} (h : DkAt code pc [43]) : decode code pc = .ok (.aload_n 1, 1) := dk_of ((dk_bind (dk_u1 (h 0 _ rfl))).trans rfl)
theorem dk_44 {code : ByteArray} {pc : Nat} (h : DkAt code pc [44]) : decode code pc = .ok (.aload_n 2, 1) := dk_of ((dk_bind (dk_u1 (h 0 _ rfl))).trans rfl)
theorem dk_45 {code : ByteArray} {pc : Nat} (h : DkAt code pc [45]) : decode code pc = .ok (.aload_n 3, 1) := dk_of ((dk_bind (dk_u1 (h 0 _ rfl))).trans rfl)
theorem dk_46 {code : ByteArray} {pc : Nat} (h : DkAt code pc [46]) : decode code pc = .ok (.iaload, 1) := dk_of ((dk_bind (dk_u1 (h 0 _ rfl))).trans rfl)
theorem dk_50 {code : ByteArray} {pc : Nat} (h : DkAt code pc [50]) : decode code pc = .ok (.aaload, 1) := dk_of ((dk_bind (dk_u1 (h 0 _ rfl))).trans rfl)
theorem dk_51 {code : ByteArray} {pc : Nat} (h : DkAt code pc [51]) : decode code pc = .ok (.baload, 1) := dk_of ((dk_bind (dk_u1 (h 0 _ rfl))).trans rfl)
theorem dk_54 {code : ByteArray} {pc : Nat} (a : UInt8) (h : DkAt code pc [54, a]) : decode code pc = .ok (.istore a.toNat, 2) := dk_of ((dk_bind (dk_u1 (h 0 _ rfl))).trans ((dk_bind (dk_u1 (h 1 _ rfl))).trans rfl))
theorem dk_58 {code : ByteArray} {pc : Nat} (a : UInt8) (h : DkAt code pc [58, a]) : decode code pc = .ok (.astore a.toNat, 2) := dk_of ((dk_bind (dk_u1 (h 0 _ rfl))).trans ((dk_bind (dk_u1 (h 1 _ rfl))).trans rfl))
theorem dk_59 {code : ByteArray} {pc : Nat} (h : DkAt code pc [59]) : decode code pc = .ok (.istore_n 0, 1) := dk_of ((dk_bind (dk_u1 (h 0 _ rfl))).trans rfl)
theorem dk_60 {code : ByteArray} {pc : Nat} (h : DkAt code pc [60]) : decode code pc = .ok (.istore_n 1, 1) := dk_of ((dk_bind (dk_u1 (h 0 _ rfl))).trans rfl)
theorem dk_61 {code : ByteArray} {pc : Nat} (h : DkAt code pc [61]) : decode code pc = .ok (.istore_n 2, 1) := dk_of ((dk_bind (dk_u1 (h 0 _ rfl))).trans rfl)
theorem dk_62 {code : ByteArray} {pc : Nat} (h : DkAt code pc [62]) : decode code pc = .ok (.istore_n 3, 1) := dk_of ((dk_bind (dk_u1 (h 0 _ rfl))).trans rfl)
theorem dk_65 {code : ByteArray} {pc : Nat} (h : DkAt code pc [65]) : decode code pc = .ok (.lstore_n 2, 1) := dk_of ((dk_bind (dk_u1 (h 0 _ rfl))).trans rfl)
theorem dk_76 {code : ByteArray} {pc : Nat} (h : DkAt code pc [76]) : decode code pc = .ok (.astore_n 1, 1) := dk_of ((dk_bind (dk_u1 (h 0 _ rfl))).trans rfl)
theorem dk_77 {code : ByteArray} {pc : Nat} (h : DkAt code pc [77]) : decode code pc = .ok (.astore_n 2, 1) := dk_of ((dk_bind (dk_u1 (h 0 _ rfl))).trans rfl)
theorem dk_78 {code : ByteArray} {pc : Nat} (h : DkAt code pc [78]) : decode code pc = .ok (.astore_n 3, 1) := dk_of ((dk_bind (dk_u1 (h 0 _ rfl))).trans rfl)
theorem dk_79 {code : ByteArray} {pc : Nat} (h : DkAt code pc [79]) : decode code pc = .ok (.iastore, 1) := dk_of ((dk_bind (dk_u1 (h 0 _ rfl))).trans rfl)
theorem dk_83 {code : ByteArray} {pc : Nat} (h : DkAt code pc [83]) : decode code pc = .ok (.aastore, 1) := dk_of ((dk_bind (dk_u1 (h 0 _ rfl))).trans rfl)
theorem dk_84 {code : ByteArray} {pc : Nat} (h : DkAt code pc [84]) : decode code pc = .ok (.bastore, 1) := dk_of ((dk_bind (dk_u1 (h 0 _ rfl))).trans rfl)
theorem dk_87 {code : ByteArray} {pc : Nat} (h : DkAt code pc [87]) : decode code pc = .ok (.pop, 1) := dk_of ((dk_bind (dk_u1 (h 0 _ rfl))).trans rfl)
theorem dk_89 {code : ByteArray} {pc : Nat} (h : DkAt code pc [89]) : decode code pc = .ok (.dup, 1) := dk_of ((dk_bind (dk_u1 (h 0 _ rfl))).trans rfl)
theorem dk_90 {code : ByteArray} {pc : Nat} (h : DkAt code pc [90]) : decode code pc = .ok (.dup_x1, 1) := dk_of ((dk_bind (dk_u1 (h 0 _ rfl))).trans rfl)
theorem dk_92 {code : ByteArray} {pc : Nat} (h : DkAt code pc [92]) : decode code pc = .ok (.dup2, 1) := dk_of ((dk_bind (dk_u1 (h 0 _ rfl))).trans rfl)
theorem dk_96 {code : ByteArray} {pc : Nat} (h : DkAt code pc [96]) : decode code pc = .ok (.iadd, 1) := dk_of ((dk_bind (dk_u1 (h 0 _ rfl))).trans rfl)
theorem dk_97 {code : ByteArray} {pc : Nat} (h : DkAt code pc [97]) : decode code pc = .ok (.ladd, 1) := dk_of ((dk_bind (dk_u1 (h 0 _ rfl))).trans rfl)
theorem dk_100 {code : ByteArray} {pc : Nat} (h : DkAt code pc [100]) : decode code pc = .ok (.isub, 1) := dk_of ((dk_bind (dk_u1 (h 0 _ rfl))).trans rfl)
theorem dk_104 {code : ByteArray} {pc : Nat} (h : DkAt code pc [104]) : decode code pc = .ok (.imul, 1) := dk_of ((dk_bind (dk_u1 (h 0 _ rfl))).trans rfl)
theorem dk_105 {code : ByteArray} {pc : Nat} (h : DkAt code pc [105]) : decode code pc = .ok (.lmul, 1) := dk_of ((dk_bind (dk_u1 (h 0 _ rfl))).trans rfl)
theorem dk_108 {code : ByteArray} {pc : Nat} (h : DkAt code pc [108]) : decode code pc = .ok (.idiv, 1) := dk_of ((dk_bind (dk_u1 (h 0 _ rfl))).trans rfl)
theorem dk_112 {code : ByteArray} {pc : Nat} (h : DkAt code pc [112]) : decode code pc = .ok (.irem, 1) := dk_of ((dk_bind (dk_u1 (h 0 _ rfl))).trans rfl)
theorem dk_113 {code : ByteArray} {pc : Nat} (h : DkAt code pc [113]) : decode code pc = .ok (.lrem, 1) := dk_of ((dk_bind (dk_u1 (h 0 _ rfl))).trans rfl)
theorem dk_116 {code : ByteArray} {pc : Nat} (h : DkAt code pc [116]) : decode code pc = .ok (.ineg, 1) := dk_of ((dk_bind (dk_u1 (h 0 _ rfl))).trans rfl)
theorem dk_120 {code : ByteArray} {pc : Nat} (h : DkAt code pc [120]) : decode code pc = .ok (.ishl, 1) := dk_of ((dk_bind (dk_u1 (h 0 _ rfl))).trans rfl)
theorem dk_122 {code : ByteArray} {pc : Nat} (h : DkAt code pc [122]) : decode code pc = .ok (.ishr, 1) := dk_of ((dk_bind (dk_u1 (h 0 _ rfl))).trans rfl)
theorem dk_124 {code : ByteArray} {pc : Nat} (h : DkAt code pc [124]) : decode code pc = .ok (.iushr, 1) := dk_of ((dk_bind (dk_u1 (h 0 _ rfl))).trans rfl)
theorem dk_126 {code : ByteArray} {pc : Nat} (h : DkAt code pc [126]) : decode code pc = .ok (.iand, 1) := dk_of ((dk_bind (dk_u1 (h 0 _ rfl))).trans rfl)
theorem dk_127 {code : ByteArray} {pc : Nat} (h : DkAt code pc [127]) : decode code pc = .ok (.land, 1) := dk_of ((dk_bind (dk_u1 (h 0 _ rfl))).trans rfl)
theorem dk_128 {code : ByteArray} {pc : Nat} (h : DkAt code pc [128]) : decode code pc = .ok (.ior, 1) := dk_of ((dk_bind (dk_u1 (h 0 _ rfl))).trans rfl)
theorem dk_130 {code : ByteArray} {pc : Nat} (h : DkAt code pc [130]) : decode code pc = .ok (.ixor, 1) := dk_of ((dk_bind (dk_u1 (h 0 _ rfl))).trans rfl)
theorem dk_132 {code : ByteArray} {pc : Nat} (a b : UInt8) (h : DkAt code pc [132, a, b]) : decode code pc = .ok (.iinc a.toNat (Reader.signed 8 b.toNat), 3) := dk_of ((dk_bind (dk_u1 (h 0 _ rfl))).trans ((dk_bind (dk_u1 (h 1 _ rfl))).trans ((dk_bind (dk_map (dk_u1 (h 2 _ rfl)))).trans rfl)))
theorem dk_133 {code : ByteArray} {pc : Nat} (h : DkAt code pc [133]) : decode code pc = .ok (.i2l, 1) := dk_of ((dk_bind (dk_u1 (h 0 _ rfl))).trans rfl)
theorem dk_136 {code : ByteArray} {pc : Nat} (h : DkAt code pc [136]) : decode code pc = .ok (.l2i, 1) := dk_of ((dk_bind (dk_u1 (h 0 _ rfl))).trans rfl)
theorem dk_145 {code : ByteArray} {pc : Nat} (h : DkAt code pc [145]) : decode code pc = .ok (.i2b, 1) := dk_of ((dk_bind (dk_u1 (h 0 _ rfl))).trans rfl)
theorem dk_148 {code : ByteArray} {pc : Nat} (h : DkAt code pc [148]) : decode code pc = .ok (.lcmp, 1) := dk_of ((dk_bind (dk_u1 (h 0 _ rfl))).trans rfl)
theorem dk_153 {code : ByteArray} {pc : Nat} (a b : UInt8) (h : DkAt code pc [153, a, b]) : decode code pc = .ok (.ifCond .eq (Reader.signed 16 (a.toNat * 256 + b.toNat)), 3) := dk_of ((dk_bind (dk_u1 (h 0 _ rfl))).trans ((dk_bind (dk_map (dk_u2 (h 1 _ rfl) (h 2 _ rfl)))).trans rfl))
theorem dk_154 {code : ByteArray} {pc : Nat} (a b : UInt8) (h : DkAt code pc [154, a, b]) : decode code pc = .ok (.ifCond .ne (Reader.signed 16 (a.toNat * 256 + b.toNat)), 3) := dk_of ((dk_bind (dk_u1 (h 0 _ rfl))).trans ((dk_bind (dk_map (dk_u2 (h 1 _ rfl) (h 2 _ rfl)))).trans rfl))
theorem dk_155 {code : ByteArray} {pc : Nat} (a b : UInt8) (h : DkAt code pc [155, a, b]) : decode code pc = .ok (.ifCond .lt (Reader.signed 16 (a.toNat * 256 + b.toNat)), 3) := dk_of ((dk_bind (dk_u1 (h 0 _ rfl))).trans ((dk_bind (dk_map (dk_u2 (h 1 _ rfl) (h 2 _ rfl)))).trans rfl))
theorem dk_156 {code : ByteArray} {pc : Nat} (a b : UInt8) (h : DkAt code pc [156, a, b]) : decode code pc = .ok (.ifCond .ge (Reader.signed 16 (a.toNat * 256 + b.toNat)), 3) := dk_of ((dk_bind (dk_u1 (h 0 _ rfl))).trans ((dk_bind (dk_map (dk_u2 (h 1 _ rfl) (h 2 _ rfl)))).trans rfl))
theorem dk_157 {code : ByteArray} {pc : Nat} (a b : UInt8) (h : DkAt code pc [157, a, b]) : decode code pc = .ok (.ifCond .gt (Reader.signed 16 (a.toNat * 256 + b.toNat)), 3) := dk_of ((dk_bind (dk_u1 (h 0 _ rfl))).trans ((dk_bind (dk_map (dk_u2 (h 1 _ rfl) (h 2 _ rfl)))).trans rfl))
theorem dk_158 {code : ByteArray} {pc : Nat} (a b : UInt8) (h : DkAt code pc [158, a, b]) : decode code pc = .ok (.ifCond .le (Reader.signed 16 (a.toNat * 256 + b.toNat)), 3) := dk_of ((dk_bind (dk_u1 (h 0 _ rfl))).trans ((dk_bind (dk_map (dk_u2 (h 1 _ rfl) (h 2 _ rfl)))).trans rfl))
theorem dk_159 {code : ByteArray} {pc : Nat} (a b : UInt8) (h : DkAt code pc [159, a, b]) : decode code pc = .ok (.if_icmp .eq (Reader.signed 16 (a.toNat * 256 + b.toNat)), 3) := dk_of ((dk_bind (dk_u1 (h 0 _ rfl))).trans ((dk_bind (dk_map (dk_u2 (h 1 _ rfl) (h 2 _ rfl)))).trans rfl))
theorem dk_160 {code : ByteArray} {pc : Nat} (a b : UInt8) (h : DkAt code pc [160, a, b]) : decode code pc = .ok (.if_icmp .ne (Reader.signed 16 (a.toNat * 256 + b.toNat)), 3) := dk_of ((dk_bind (dk_u1 (h 0 _ rfl))).trans ((dk_bind (dk_map (dk_u2 (h 1 _ rfl) (h 2 _ rfl)))).trans rfl))
theorem dk_161 {code : ByteArray} {pc : Nat} (a b : UInt8) (h : DkAt code pc [161, a, b]) : decode code pc = .ok (.if_icmp .lt (Reader.signed 16 (a.toNat * 256 + b.toNat)), 3) := dk_of ((dk_bind (dk_u1 (h 0 _ rfl))).trans ((dk_bind (dk_map (dk_u2 (h 1 _ rfl) (h 2 _ rfl)))).trans rfl))
theorem dk_162 {code : ByteArray} {pc : Nat} (a b : UInt8) (h : DkAt code pc [162, a, b]) : decode code pc = .ok (.if_icmp .ge (Reader.signed 16 (a.toNat * 256 + b.toNat)), 3) := dk_of ((dk_bind (dk_u1 (h 0 _ rfl))).trans ((dk_bind (dk_map (dk_u2 (h 1 _ rfl) (h 2 _ rfl)))).trans rfl))
theorem dk_163 {code : ByteArray} {pc : Nat} (a b : UInt8) (h : DkAt code pc [163, a, b]) : decode code pc = .ok (.if_icmp .gt (Reader.signed 16 (a.toNat * 256 + b.toNat)), 3) := dk_of ((dk_bind (dk_u1 (h 0 _ rfl))).trans ((dk_bind (dk_map (dk_u2 (h 1 _ rfl) (h 2 _ rfl)))).trans rfl))
theorem dk_164 {code : ByteArray} {pc : Nat} (a b : UInt8) (h : DkAt code pc [164, a, b]) : decode code pc = .ok (.if_icmp .le (Reader.signed 16 (a.toNat * 256 + b.toNat)), 3) := dk_of ((dk_bind (dk_u1 (h 0 _ rfl))).trans ((dk_bind (dk_map (dk_u2 (h 1 _ rfl) (h 2 _ rfl)))).trans rfl))
theorem dk_167 {code : ByteArray} {pc : Nat} (a b : UInt8) (h : DkAt code pc [167, a, b]) : decode code pc = .ok (.goto (Reader.signed 16 (a.toNat * 256 + b.toNat)), 3) := dk_of ((dk_bind (dk_u1 (h 0 _ rfl))).trans ((dk_bind (dk_map (dk_u2 (h 1 _ rfl) (h 2 _ rfl)))).trans rfl))
theorem dk_172 {code : ByteArray} {pc : Nat} (h : DkAt code pc [172]) : decode code pc = .ok (.ireturn, 1) := dk_of ((dk_bind (dk_u1 (h 0 _ rfl))).trans rfl)
theorem dk_177 {code : ByteArray} {pc : Nat} (h : DkAt code pc [177]) : decode code pc = .ok (.return_, 1) := dk_of ((dk_bind (dk_u1 (h 0 _ rfl))).trans rfl)
theorem dk_178 {code : ByteArray} {pc : Nat} (a b : UInt8) (h : DkAt code pc [178, a, b]) : decode code pc = .ok (.getstatic (a.toNat * 256 + b.toNat), 3) := dk_of ((dk_bind (dk_u1 (h 0 _ rfl))).trans ((dk_bind (dk_u2 (h 1 _ rfl) (h 2 _ rfl))).trans rfl))
theorem dk_180 {code : ByteArray} {pc : Nat} (a b : UInt8) (h : DkAt code pc [180, a, b]) : decode code pc = .ok (.getfield (a.toNat * 256 + b.toNat), 3) := dk_of ((dk_bind (dk_u1 (h 0 _ rfl))).trans ((dk_bind (dk_u2 (h 1 _ rfl) (h 2 _ rfl))).trans rfl))
theorem dk_181 {code : ByteArray} {pc : Nat} (a b : UInt8) (h : DkAt code pc [181, a, b]) : decode code pc = .ok (.putfield (a.toNat * 256 + b.toNat), 3) := dk_of ((dk_bind (dk_u1 (h 0 _ rfl))).trans ((dk_bind (dk_u2 (h 1 _ rfl) (h 2 _ rfl))).trans rfl))
theorem dk_182 {code : ByteArray} {pc : Nat} (a b : UInt8) (h : DkAt code pc [182, a, b]) : decode code pc = .ok (.invokevirtual (a.toNat * 256 + b.toNat), 3) := dk_of ((dk_bind (dk_u1 (h 0 _ rfl))).trans ((dk_bind (dk_u2 (h 1 _ rfl) (h 2 _ rfl))).trans rfl))
theorem dk_183 {code : ByteArray} {pc : Nat} (a b : UInt8) (h : DkAt code pc [183, a, b]) : decode code pc = .ok (.invokespecial (a.toNat * 256 + b.toNat), 3) := dk_of ((dk_bind (dk_u1 (h 0 _ rfl))).trans ((dk_bind (dk_u2 (h 1 _ rfl) (h 2 _ rfl))).trans rfl))
theorem dk_184 {code : ByteArray} {pc : Nat} (a b : UInt8) (h : DkAt code pc [184, a, b]) : decode code pc = .ok (.invokestatic (a.toNat * 256 + b.toNat), 3) := dk_of ((dk_bind (dk_u1 (h 0 _ rfl))).trans ((dk_bind (dk_u2 (h 1 _ rfl) (h 2 _ rfl))).trans rfl))
theorem dk_187 {code : ByteArray} {pc : Nat} (a b : UInt8) (h : DkAt code pc [187, a, b]) : decode code pc = .ok (.new (a.toNat * 256 + b.toNat), 3) := dk_of ((dk_bind (dk_u1 (h 0 _ rfl))).trans ((dk_bind (dk_u2 (h 1 _ rfl) (h 2 _ rfl))).trans rfl))
theorem dk_188_4 {code : ByteArray} {pc : Nat} (h : DkAt code pc [188, 4]) : decode code pc = .ok (.newarray .boolean, 2) := dk_of ((dk_bind (dk_u1 (h 0 _ rfl))).trans ((dk_bind (dk_u1 (h 1 _ rfl))).trans rfl))
theorem dk_188_8 {code : ByteArray} {pc : Nat} (h : DkAt code pc [188, 8]) : decode code pc = .ok (.newarray .byte, 2) := dk_of ((dk_bind (dk_u1 (h 0 _ rfl))).trans ((dk_bind (dk_u1 (h 1 _ rfl))).trans rfl))
theorem dk_188_10 {code : ByteArray} {pc : Nat} (h : DkAt code pc [188, 10]) : decode code pc = .ok (.newarray .int, 2) := dk_of ((dk_bind (dk_u1 (h 0 _ rfl))).trans ((dk_bind (dk_u1 (h 1 _ rfl))).trans rfl))
theorem dk_189 {code : ByteArray} {pc : Nat} (a b : UInt8) (h : DkAt code pc [189, a, b]) : decode code pc = .ok (.anewarray (a.toNat * 256 + b.toNat), 3) := dk_of ((dk_bind (dk_u1 (h 0 _ rfl))).trans ((dk_bind (dk_u2 (h 1 _ rfl) (h 2 _ rfl))).trans rfl))
theorem dk_190 {code : ByteArray} {pc : Nat} (h : DkAt code pc [190]) : decode code pc = .ok (.arraylength, 1) := dk_of ((dk_bind (dk_u1 (h 0 _ rfl))).trans rfl)
theorem dk_191 {code : ByteArray} {pc : Nat} (h : DkAt code pc [191]) : decode code pc = .ok (.athrow, 1) := dk_of ((dk_bind (dk_u1 (h 0 _ rfl))).trans rfl)
theorem dk_193 {code : ByteArray} {pc : Nat} (a b : UInt8) (h : DkAt code pc [193, a, b]) : decode code pc = .ok (.instanceof (a.toNat * 256 + b.toNat), 3) := dk_of ((dk_bind (dk_u1 (h 0 _ rfl))).trans ((dk_bind (dk_u2 (h 1 _ rfl) (h 2 _ rfl))).trans rfl))

/-! java/lang/Throwable -/
set_option maxRecDepth 100000
def RJ0 : String := "java/lang/Throwable"
def TJ0 : u_T := fun k => match k with
  | 0 => ("java/lang/Throwable", "cause", "Ljava/lang/Throwable;", false)
  | 1 => ("java/lang/Throwable", "stackTrace", "[Ljava/lang/StackTraceElement;", false)
  | 2 => ("java/lang/Throwable", "suppressedExceptions", "Ljava/util/List;", false)
  | 3 => ("java/lang/Throwable", "detailMessage", "Ljava/lang/String;", false)
  | _ => ("java/lang/Throwable", "backtrace", "Ljava/lang/Object;", false)
def tyJ0 : Nat → FieldType := fun k => match k with
  | 0 => .object "java/lang/Throwable"
  | 1 => .array (.object "java/lang/StackTraceElement")
  | 2 => .object "java/util/List"
  | 3 => .object "java/lang/String"
  | _ => .object "java/lang/Object"
abbrev wsJ00 : List Cond := u_ws RJ0 TJ0 5
theorem nmJ0 : ∀ a, a < 5 → ∀ b, b < 5 → a ≠ b → (TJ0 a).2.1 ≠ (TJ0 b).2.1 := by decide +kernel
theorem tyJ0_ok : ∀ k, k < 5 → parseFieldDescriptor (TJ0 k).2.2.1 = some (tyJ0 k) := by decide +kernel
abbrev cJ0_init : ByteArray := prog_18_method_1_code
def yJ0_init : MethodName := ⟨RJ0, "<init>", "()V"⟩
def dkwJ0_init_1 : List UInt8 := [182, 0, 27, 87, 177]
abbrev dktJ0_init_1 : List UInt8 := dkwJ0_init_1 ++ []
def dkwJ0_init_0 : List UInt8 := [42, 183, 0, 1, 42, 42, 181, 0, 7, 42, 178, 0, 13, 181, 0, 17, 42, 178, 0, 20, 181, 0, 24, 42]
abbrev dktJ0_init_0 : List UInt8 := dkwJ0_init_0 ++ dktJ0_init_1
theorem dksJ0_init_0 : cJ0_init.data.toList.drop 0 = dktJ0_init_0 := by decide +kernel
theorem dksJ0_init_1 : cJ0_init.data.toList.drop 24 = dktJ0_init_1 := dk_seg dksJ0_init_0 24 rfl rfl
theorem dJ0_init_0 : decode cJ0_init 0 = .ok (.aload_n 0, 1) := dk_42 (dk_at dksJ0_init_0 0 rfl rfl)
theorem dJ0_init_1 : decode cJ0_init 1 = .ok (.invokespecial 1, 3) := dk_183 0 1 (dk_at dksJ0_init_0 1 rfl rfl)
theorem dJ0_init_4 : decode cJ0_init 4 = .ok (.aload_n 0, 1) := dk_42 (dk_at dksJ0_init_0 4 rfl rfl)
theorem dJ0_init_5 : decode cJ0_init 5 = .ok (.aload_n 0, 1) := dk_42 (dk_at dksJ0_init_0 5 rfl rfl)
theorem dJ0_init_6 : decode cJ0_init 6 = .ok (.putfield 7, 3) := dk_181 0 7 (dk_at dksJ0_init_0 6 rfl rfl)
theorem dJ0_init_9 : decode cJ0_init 9 = .ok (.aload_n 0, 1) := dk_42 (dk_at dksJ0_init_0 9 rfl rfl)
theorem dJ0_init_10 : decode cJ0_init 10 = .ok (.getstatic 13, 3) := dk_178 0 13 (dk_at dksJ0_init_0 10 rfl rfl)
theorem dJ0_init_13 : decode cJ0_init 13 = .ok (.putfield 17, 3) := dk_181 0 17 (dk_at dksJ0_init_0 13 rfl rfl)
theorem dJ0_init_16 : decode cJ0_init 16 = .ok (.aload_n 0, 1) := dk_42 (dk_at dksJ0_init_0 16 rfl rfl)
theorem dJ0_init_17 : decode cJ0_init 17 = .ok (.getstatic 20, 3) := dk_178 0 20 (dk_at dksJ0_init_0 17 rfl rfl)
theorem dJ0_init_20 : decode cJ0_init 20 = .ok (.putfield 24, 3) := dk_181 0 24 (dk_at dksJ0_init_0 20 rfl rfl)
theorem dJ0_init_23 : decode cJ0_init 23 = .ok (.aload_n 0, 1) := dk_42 (dk_at dksJ0_init_0 23 rfl rfl)
theorem dJ0_init_24 : decode cJ0_init 24 = .ok (.invokevirtual 27, 3) := dk_182 0 27 (dk_at dksJ0_init_1 0 rfl rfl)
theorem dJ0_init_27 : decode cJ0_init 27 = .ok (.pop, 1) := dk_87 (dk_at dksJ0_init_1 3 rfl rfl)
theorem dJ0_init_28 : decode cJ0_init 28 = .ok (.return_, 1) := dk_177 (dk_at dksJ0_init_1 4 rfl rfl)
abbrev cJ0_init_2 : ByteArray := prog_18_method_2_code
def yJ0_init_2 : MethodName := ⟨RJ0, "<init>", "(Ljava/lang/String;)V"⟩
def dkwJ0_init_2_1 : List UInt8 := [182, 0, 27, 87, 42, 43, 181, 0, 31, 177]
abbrev dktJ0_init_2_1 : List UInt8 := dkwJ0_init_2_1 ++ []
def dkwJ0_init_2_0 : List UInt8 := [42, 183, 0, 1, 42, 42, 181, 0, 7, 42, 178, 0, 13, 181, 0, 17, 42, 178, 0, 20, 181, 0, 24, 42]
abbrev dktJ0_init_2_0 : List UInt8 := dkwJ0_init_2_0 ++ dktJ0_init_2_1
theorem dksJ0_init_2_0 : cJ0_init_2.data.toList.drop 0 = dktJ0_init_2_0 := by decide +kernel
theorem dksJ0_init_2_1 : cJ0_init_2.data.toList.drop 24 = dktJ0_init_2_1 := dk_seg dksJ0_init_2_0 24 rfl rfl
theorem dJ0_init_2_0 : decode cJ0_init_2 0 = .ok (.aload_n 0, 1) := dk_42 (dk_at dksJ0_init_2_0 0 rfl rfl)
theorem dJ0_init_2_1 : decode cJ0_init_2 1 = .ok (.invokespecial 1, 3) := dk_183 0 1 (dk_at dksJ0_init_2_0 1 rfl rfl)
theorem dJ0_init_2_4 : decode cJ0_init_2 4 = .ok (.aload_n 0, 1) := dk_42 (dk_at dksJ0_init_2_0 4 rfl rfl)
theorem dJ0_init_2_5 : decode cJ0_init_2 5 = .ok (.aload_n 0, 1) := dk_42 (dk_at dksJ0_init_2_0 5 rfl rfl)
theorem dJ0_init_2_6 : decode cJ0_init_2 6 = .ok (.putfield 7, 3) := dk_181 0 7 (dk_at dksJ0_init_2_0 6 rfl rfl)
theorem dJ0_init_2_9 : decode cJ0_init_2 9 = .ok (.aload_n 0, 1) := dk_42 (dk_at dksJ0_init_2_0 9 rfl rfl)
theorem dJ0_init_2_10 : decode cJ0_init_2 10 = .ok (.getstatic 13, 3) := dk_178 0 13 (dk_at dksJ0_init_2_0 10 rfl rfl)
theorem dJ0_init_2_13 : decode cJ0_init_2 13 = .ok (.putfield 17, 3) := dk_181 0 17 (dk_at dksJ0_init_2_0 13 rfl rfl)
theorem dJ0_init_2_16 : decode cJ0_init_2 16 = .ok (.aload_n 0, 1) := dk_42 (dk_at dksJ0_init_2_0 16 rfl rfl)
theorem dJ0_init_2_17 : decode cJ0_init_2 17 = .ok (.getstatic 20, 3) := dk_178 0 20 (dk_at dksJ0_init_2_0 17 rfl rfl)
theorem dJ0_init_2_20 : decode cJ0_init_2 20 = .ok (.putfield 24, 3) := dk_181 0 24 (dk_at dksJ0_init_2_0 20 rfl rfl)
theorem dJ0_init_2_23 : decode cJ0_init_2 23 = .ok (.aload_n 0, 1) := dk_42 (dk_at dksJ0_init_2_0 23 rfl rfl)
theorem dJ0_init_2_24 : decode cJ0_init_2 24 = .ok (.invokevirtual 27, 3) := dk_182 0 27 (dk_at dksJ0_init_2_1 0 rfl rfl)
theorem dJ0_init_2_27 : decode cJ0_init_2 27 = .ok (.pop, 1) := dk_87 (dk_at dksJ0_init_2_1 3 rfl rfl)
theorem dJ0_init_2_28 : decode cJ0_init_2 28 = .ok (.aload_n 0, 1) := dk_42 (dk_at dksJ0_init_2_1 4 rfl rfl)
theorem dJ0_init_2_29 : decode cJ0_init_2 29 = .ok (.aload_n 1, 1) := dk_43 (dk_at dksJ0_init_2_1 5 rfl rfl)
theorem dJ0_init_2_30 : decode cJ0_init_2 30 = .ok (.putfield 31, 3) := dk_181 0 31 (dk_at dksJ0_init_2_1 6 rfl rfl)
theorem dJ0_init_2_33 : decode cJ0_init_2 33 = .ok (.return_, 1) := dk_177 (dk_at dksJ0_init_2_1 9 rfl rfl)
abbrev cJ0_init_3 : ByteArray := prog_18_method_3_code
def yJ0_init_3 : MethodName := ⟨RJ0, "<init>", "(Ljava/lang/String;Ljava/lang/Throwable;)V"⟩
def dkwJ0_init_3_1 : List UInt8 := [182, 0, 27, 87, 42, 43, 181, 0, 31, 42, 44, 181, 0, 7, 177]
abbrev dktJ0_init_3_1 : List UInt8 := dkwJ0_init_3_1 ++ []
def dkwJ0_init_3_0 : List UInt8 := [42, 183, 0, 1, 42, 42, 181, 0, 7, 42, 178, 0, 13, 181, 0, 17, 42, 178, 0, 20, 181, 0, 24, 42]
abbrev dktJ0_init_3_0 : List UInt8 := dkwJ0_init_3_0 ++ dktJ0_init_3_1
theorem dksJ0_init_3_0 : cJ0_init_3.data.toList.drop 0 = dktJ0_init_3_0 := by decide +kernel
theorem dksJ0_init_3_1 : cJ0_init_3.data.toList.drop 24 = dktJ0_init_3_1 := dk_seg dksJ0_init_3_0 24 rfl rfl
theorem dJ0_init_3_0 : decode cJ0_init_3 0 = .ok (.aload_n 0, 1) := dk_42 (dk_at dksJ0_init_3_0 0 rfl rfl)
theorem dJ0_init_3_1 : decode cJ0_init_3 1 = .ok (.invokespecial 1, 3) := dk_183 0 1 (dk_at dksJ0_init_3_0 1 rfl rfl)
theorem dJ0_init_3_4 : decode cJ0_init_3 4 = .ok (.aload_n 0, 1) := dk_42 (dk_at dksJ0_init_3_0 4 rfl rfl)
theorem dJ0_init_3_5 : decode cJ0_init_3 5 = .ok (.aload_n 0, 1) := dk_42 (dk_at dksJ0_init_3_0 5 rfl rfl)
theorem dJ0_init_3_6 : decode cJ0_init_3 6 = .ok (.putfield 7, 3) := dk_181 0 7 (dk_at dksJ0_init_3_0 6 rfl rfl)
theorem dJ0_init_3_9 : decode cJ0_init_3 9 = .ok (.aload_n 0, 1) := dk_42 (dk_at dksJ0_init_3_0 9 rfl rfl)
theorem dJ0_init_3_10 : decode cJ0_init_3 10 = .ok (.getstatic 13, 3) := dk_178 0 13 (dk_at dksJ0_init_3_0 10 rfl rfl)
theorem dJ0_init_3_13 : decode cJ0_init_3 13 = .ok (.putfield 17, 3) := dk_181 0 17 (dk_at dksJ0_init_3_0 13 rfl rfl)
theorem dJ0_init_3_16 : decode cJ0_init_3 16 = .ok (.aload_n 0, 1) := dk_42 (dk_at dksJ0_init_3_0 16 rfl rfl)
theorem dJ0_init_3_17 : decode cJ0_init_3 17 = .ok (.getstatic 20, 3) := dk_178 0 20 (dk_at dksJ0_init_3_0 17 rfl rfl)
theorem dJ0_init_3_20 : decode cJ0_init_3 20 = .ok (.putfield 24, 3) := dk_181 0 24 (dk_at dksJ0_init_3_0 20 rfl rfl)
theorem dJ0_init_3_23 : decode cJ0_init_3 23 = .ok (.aload_n 0, 1) := dk_42 (dk_at dksJ0_init_3_0 23 rfl rfl)
theorem dJ0_init_3_24 : decode cJ0_init_3 24 = .ok (.invokevirtual 27, 3) := dk_182 0 27 (dk_at dksJ0_init_3_1 0 rfl rfl)
theorem dJ0_init_3_27 : decode cJ0_init_3 27 = .ok (.pop, 1) := dk_87 (dk_at dksJ0_init_3_1 3 rfl rfl)
theorem dJ0_init_3_28 : decode cJ0_init_3 28 = .ok (.aload_n 0, 1) := dk_42 (dk_at dksJ0_init_3_1 4 rfl rfl)
theorem dJ0_init_3_29 : decode cJ0_init_3 29 = .ok (.aload_n 1, 1) := dk_43 (dk_at dksJ0_init_3_1 5 rfl rfl)
theorem dJ0_init_3_30 : decode cJ0_init_3 30 = .ok (.putfield 31, 3) := dk_181 0 31 (dk_at dksJ0_init_3_1 6 rfl rfl)
theorem dJ0_init_3_33 : decode cJ0_init_3 33 = .ok (.aload_n 0, 1) := dk_42 (dk_at dksJ0_init_3_1 9 rfl rfl)
theorem dJ0_init_3_34 : decode cJ0_init_3 34 = .ok (.aload_n 2, 1) := dk_44 (dk_at dksJ0_init_3_1 10 rfl rfl)
theorem dJ0_init_3_35 : decode cJ0_init_3 35 = .ok (.putfield 7, 3) := dk_181 0 7 (dk_at dksJ0_init_3_1 11 rfl rfl)
theorem dJ0_init_3_38 : decode cJ0_init_3 38 = .ok (.return_, 1) := dk_177 (dk_at dksJ0_init_3_1 14 rfl rfl)
theorem q73 : (Jvm.Cond.initialized "java/lang/Throwable") ∈ lw_all := lw_g (lw_at lw_m1 5 rfl) rfl
theorem q236 : (Jvm.Cond.declares ({ cls := "java/lang/Throwable", name := "<init>", desc := "()V" } : Jvm.MethodName)) ∈ lw_tbl := lw_at lw_m1 168 rfl
theorem q237 : (Jvm.Cond.declares ({ cls := "java/lang/Throwable", name := "<init>", desc := "(Ljava/lang/String;)V" } : Jvm.MethodName)) ∈ lw_tbl := lw_at lw_m1 169 rfl
theorem q241 : (Jvm.Cond.lays "java/lang/Throwable" "java/lang/Throwable" "cause" "Ljava/lang/Throwable;") ∈ lw_all := lw_g (lw_at lw_m1 173 rfl) rfl
theorem q243 : (Jvm.Cond.lays "java/lang/Throwable" "java/lang/Throwable" "stackTrace" "[Ljava/lang/StackTraceElement;") ∈ lw_all := lw_g (lw_at lw_m1 175 rfl) rfl
theorem q245 : (Jvm.Cond.lays "java/lang/Throwable" "java/lang/Throwable" "suppressedExceptions" "Ljava/util/List;") ∈ lw_all := lw_g (lw_at lw_m1 177 rfl) rfl
theorem q247 : (Jvm.Cond.lays "java/lang/Throwable" "java/lang/Throwable" "detailMessage" "Ljava/lang/String;") ∈ lw_all := lw_g (lw_at lw_m1 179 rfl) rfl
theorem q249 : (Jvm.Cond.lays "java/lang/Throwable" "java/lang/Throwable" "backtrace" "Ljava/lang/Object;") ∈ lw_all := lw_g (lw_at lw_m1 181 rfl) rfl
theorem q250 : (Jvm.Cond.fieldLink "java/lang/Throwable" (198 : Nat) "java/lang/Throwable" "backtrace" "Ljava/lang/Object;") ∈ lw_all := lw_g (lw_at lw_m1 182 rfl) rfl
theorem q251 : (Jvm.Cond.superclass "java/lang/Throwable" "java/lang/Object") ∈ lw_all := lw_g (lw_at lw_m1 183 rfl) rfl
theorem q252 : (Jvm.Cond.instanceMethod ({ cls := "java/lang/Throwable", name := "<init>", desc := "()V" } : Jvm.MethodName)) ∈ lw_all := lw_g (lw_at lw_m1 184 rfl) rfl
theorem q253 : (Jvm.Cond.code ({ cls := "java/lang/Throwable", name := "<init>", desc := "()V" } : Jvm.MethodName) prog_18_method_1_code (1 : Nat) (Option.none : Option Jvm.ClassFile.FieldType)) ∈ lw_all := lw_g (lw_at lw_m1 185 rfl) rfl
theorem q254 : (Jvm.Cond.methodLink "java/lang/Throwable" (1 : Nat) ({ cls := "java/lang/Object", name := "<init>", desc := "()V" } : Jvm.MethodName)) ∈ lw_all := lw_g (lw_at lw_m1 186 rfl) rfl
theorem q255 : (Jvm.Cond.fieldLink "java/lang/Throwable" (13 : Nat) "java/lang/Throwable" "UNASSIGNED_STACK" "[Ljava/lang/StackTraceElement;") ∈ lw_all := lw_g (lw_at lw_m1 187 rfl) rfl
theorem q256 : (Jvm.Cond.laysStatic "java/lang/Throwable" "UNASSIGNED_STACK" "[Ljava/lang/StackTraceElement;") ∈ lw_tbl := lw_at lw_m1 188 rfl
theorem q257 : (Jvm.Cond.fieldLink "java/lang/Throwable" (20 : Nat) "java/lang/Throwable" "SUPPRESSED_SENTINEL" "Ljava/util/List;") ∈ lw_all := lw_g (lw_at lw_m1 189 rfl) rfl
theorem q258 : (Jvm.Cond.laysStatic "java/lang/Throwable" "SUPPRESSED_SENTINEL" "Ljava/util/List;") ∈ lw_tbl := lw_at lw_m1 190 rfl
theorem q259 : (Jvm.Cond.methodLink "java/lang/Throwable" (27 : Nat) ({ cls := "java/lang/Throwable", name := "fillInStackTrace", desc := "()Ljava/lang/Throwable;" } : Jvm.MethodName)) ∈ lw_all := lw_g (lw_at lw_m1 191 rfl) rfl
theorem q260 : (Jvm.Cond.instanceMethod ({ cls := "java/lang/Throwable", name := "fillInStackTrace", desc := "()Ljava/lang/Throwable;" } : Jvm.MethodName)) ∈ lw_all := lw_g (lw_at lw_m1 192 rfl) rfl
theorem q261 : (Jvm.Cond.sameMethod "java/lang/Throwable" "java/lang/Throwable" "fillInStackTrace" "()Ljava/lang/Throwable;") ∈ lw_all := lw_g (lw_at lw_m1 193 rfl) rfl
theorem q268 : (Jvm.Cond.codeSync ({ cls := "java/lang/Throwable", name := "fillInStackTrace", desc := "()Ljava/lang/Throwable;" } : Jvm.MethodName) prog_18_method_18_code (1 : Nat) (Option.some (Jvm.ClassFile.FieldType.object "java/lang/Throwable"))) ∈ lw_all := lw_g (lw_at lw_m1 200 rfl) rfl
theorem q269 : (Jvm.Cond.methodLink "java/lang/Throwable" (202 : Nat) ({ cls := "java/lang/Throwable", name := "fillInStackTrace", desc := "(I)Ljava/lang/Throwable;" } : Jvm.MethodName)) ∈ lw_all := lw_g (lw_at lw_m1 201 rfl) rfl
theorem q270 : (Jvm.Cond.privateMethod ({ cls := "java/lang/Throwable", name := "fillInStackTrace", desc := "(I)Ljava/lang/Throwable;" } : Jvm.MethodName)) ∈ lw_tbl := lw_at lw_m1 202 rfl
theorem q271 : (Jvm.Cond.instanceMethod ({ cls := "java/lang/Throwable", name := "fillInStackTrace", desc := "(I)Ljava/lang/Throwable;" } : Jvm.MethodName)) ∈ lw_all := lw_g (lw_at lw_m1 203 rfl) rfl
theorem q272 : (Jvm.Cond.instantiable "java/lang/Throwable" (6 : Nat)) ∈ lw_all := lw_g (lw_at lw_m1 204 rfl) rfl
theorem q273 : (Jvm.Cond.native ({ cls := "java/lang/Throwable", name := "fillInStackTrace", desc := "(I)Ljava/lang/Throwable;" } : Jvm.MethodName)) ∈ lw_all := lw_g (lw_at lw_m1 205 rfl) rfl
theorem q282 : (Jvm.Cond.instanceMethod ({ cls := "java/lang/Throwable", name := "<init>", desc := "(Ljava/lang/String;)V" } : Jvm.MethodName)) ∈ lw_all := lw_g (lw_at lw_m1 214 rfl) rfl
theorem q283 : (Jvm.Cond.code ({ cls := "java/lang/Throwable", name := "<init>", desc := "(Ljava/lang/String;)V" } : Jvm.MethodName) prog_18_method_2_code (2 : Nat) (Option.none : Option Jvm.ClassFile.FieldType)) ∈ lw_all := lw_g (lw_at lw_m1 215 rfl) rfl
theorem q284 : (Jvm.Cond.fieldLink "java/lang/Throwable" (198 : Nat) "java/lang/Throwable" "backtrace" "Ljava/lang/Object;") ∈ lw_all := lw_g (lw_at lw_m1 216 rfl) rfl
theorem q285 : (Jvm.Cond.fieldLink "java/lang/Throwable" (31 : Nat) "java/lang/Throwable" "detailMessage" "Ljava/lang/String;") ∈ lw_all := lw_g (lw_at lw_m1 217 rfl) rfl
theorem q286 : (Jvm.Cond.fieldLink "java/lang/Throwable" (7 : Nat) "java/lang/Throwable" "cause" "Ljava/lang/Throwable;") ∈ lw_all := lw_g (lw_at lw_m1 218 rfl) rfl
theorem q287 : (Jvm.Cond.fieldLink "java/lang/Throwable" (17 : Nat) "java/lang/Throwable" "stackTrace" "[Ljava/lang/StackTraceElement;") ∈ lw_all := lw_g (lw_at lw_m1 219 rfl) rfl
theorem q288 : (Jvm.Cond.fieldLink "java/lang/Throwable" (24 : Nat) "java/lang/Throwable" "suppressedExceptions" "Ljava/util/List;") ∈ lw_all := lw_g (lw_at lw_m1 220 rfl) rfl
theorem q289 : (Jvm.Cond.soleField "java/lang/Throwable" "backtrace") ∈ lw_all := lw_g (lw_at lw_m1 221 rfl) rfl
theorem q290 : (Jvm.Cond.soleField "java/lang/Throwable" "detailMessage") ∈ lw_all := lw_g (lw_at lw_m1 222 rfl) rfl
theorem q291 : (Jvm.Cond.soleField "java/lang/Throwable" "cause") ∈ lw_all := lw_g (lw_at lw_m1 223 rfl) rfl
theorem q292 : (Jvm.Cond.soleField "java/lang/Throwable" "stackTrace") ∈ lw_all := lw_g (lw_at lw_m1 224 rfl) rfl
theorem q294 : (Jvm.Cond.soleField "java/lang/Throwable" "depth") ∈ lw_all := lw_g (lw_at lw_m1 226 rfl) rfl
theorem q295 : (Jvm.Cond.soleField "java/lang/Throwable" "suppressedExceptions") ∈ lw_all := lw_g (lw_at lw_m1 227 rfl) rfl
theorem q345 : (Jvm.Cond.instanceMethod ({ cls := "java/lang/Throwable", name := "<init>", desc := "(Ljava/lang/String;Ljava/lang/Throwable;)V" } : Jvm.MethodName)) ∈ lw_all := lw_g (lw_at lw_m2 37 rfl) rfl
theorem q346 : (Jvm.Cond.code ({ cls := "java/lang/Throwable", name := "<init>", desc := "(Ljava/lang/String;Ljava/lang/Throwable;)V" } : Jvm.MethodName) prog_18_method_3_code (3 : Nat) (Option.none : Option Jvm.ClassFile.FieldType)) ∈ lw_all := lw_g (lw_at lw_m2 38 rfl) rfl
theorem q409 : (Jvm.Cond.declares ({ cls := "java/lang/Throwable", name := "getCause", desc := "()Ljava/lang/Throwable;" } : Jvm.MethodName)) ∈ lw_tbl := lw_at lw_m2 101 rfl
theorem q411 : (Jvm.Cond.instanceMethod ({ cls := "java/lang/Throwable", name := "getCause", desc := "()Ljava/lang/Throwable;" } : Jvm.MethodName)) ∈ lw_all := lw_g (lw_at lw_m2 103 rfl) rfl
theorem q412 : (Jvm.Cond.codeSync ({ cls := "java/lang/Throwable", name := "getCause", desc := "()Ljava/lang/Throwable;" } : Jvm.MethodName) prog_18_method_8_code (1 : Nat) (Option.some (Jvm.ClassFile.FieldType.object "java/lang/Throwable"))) ∈ lw_all := lw_g (lw_at lw_m2 104 rfl) rfl
theorem q514 : (Jvm.Cond.declares ({ cls := "java/lang/Throwable", name := "initCause", desc := "(Ljava/lang/Throwable;)Ljava/lang/Throwable;" } : Jvm.MethodName)) ∈ lw_tbl := lw_at lw_m2 206 rfl
theorem q516 : (Jvm.Cond.instanceMethod ({ cls := "java/lang/Throwable", name := "initCause", desc := "(Ljava/lang/Throwable;)Ljava/lang/Throwable;" } : Jvm.MethodName)) ∈ lw_all := lw_g (lw_at lw_m2 208 rfl) rfl
theorem q517 : (Jvm.Cond.codeSync ({ cls := "java/lang/Throwable", name := "initCause", desc := "(Ljava/lang/Throwable;)Ljava/lang/Throwable;" } : Jvm.MethodName) prog_18_method_9_code (2 : Nat) (Option.some (Jvm.ClassFile.FieldType.object "java/lang/Throwable"))) ∈ lw_all := lw_g (lw_at lw_m2 209 rfl) rfl
theorem q1090 : (Jvm.Cond.sameMethod "java/lang/Throwable" "java/lang/Throwable" "fillInStackTrace" "(I)Ljava/lang/Throwable;") ∈ lw_all := lw_g (lw_at lw_m5 62 rfl) rfl
theorem in_J0 : ∀ w ∈ wsJ00, w ∈ lw_all := lw_in wsJ00 [241, 243, 245, 247, 249] (by decide +kernel) (by decide +kernel)

/-! java/lang/Exception -/
set_option maxRecDepth 100000
def RJ1 : String := "java/lang/Exception"
abbrev cJ1_init : ByteArray := prog_13_method_2_code
def yJ1_init : MethodName := ⟨RJ1, "<init>", "(Ljava/lang/String;)V"⟩
def dkwJ1_init_0 : List UInt8 := [42, 43, 183, 0, 7, 177]
abbrev dktJ1_init_0 : List UInt8 := dkwJ1_init_0 ++ []
theorem dksJ1_init_0 : cJ1_init.data.toList.drop 0 = dktJ1_init_0 := by decide +kernel
theorem dJ1_init_0 : decode cJ1_init 0 = .ok (.aload_n 0, 1) := dk_42 (dk_at dksJ1_init_0 0 rfl rfl)
theorem dJ1_init_1 : decode cJ1_init 1 = .ok (.aload_n 1, 1) := dk_43 (dk_at dksJ1_init_0 1 rfl rfl)
theorem dJ1_init_2 : decode cJ1_init 2 = .ok (.invokespecial 7, 3) := dk_183 0 7 (dk_at dksJ1_init_0 2 rfl rfl)
theorem dJ1_init_5 : decode cJ1_init 5 = .ok (.return_, 1) := dk_177 (dk_at dksJ1_init_0 5 rfl rfl)
abbrev cJ1_init_2 : ByteArray := prog_13_method_3_code
def yJ1_init_2 : MethodName := ⟨RJ1, "<init>", "(Ljava/lang/String;Ljava/lang/Throwable;)V"⟩
def dkwJ1_init_2_0 : List UInt8 := [42, 43, 44, 183, 0, 10, 177]
abbrev dktJ1_init_2_0 : List UInt8 := dkwJ1_init_2_0 ++ []
theorem dksJ1_init_2_0 : cJ1_init_2.data.toList.drop 0 = dktJ1_init_2_0 := by decide +kernel
theorem dJ1_init_2_0 : decode cJ1_init_2 0 = .ok (.aload_n 0, 1) := dk_42 (dk_at dksJ1_init_2_0 0 rfl rfl)
theorem dJ1_init_2_1 : decode cJ1_init_2 1 = .ok (.aload_n 1, 1) := dk_43 (dk_at dksJ1_init_2_0 1 rfl rfl)
theorem dJ1_init_2_2 : decode cJ1_init_2 2 = .ok (.aload_n 2, 1) := dk_44 (dk_at dksJ1_init_2_0 2 rfl rfl)
theorem dJ1_init_2_3 : decode cJ1_init_2 3 = .ok (.invokespecial 10, 3) := dk_183 0 10 (dk_at dksJ1_init_2_0 3 rfl rfl)
theorem dJ1_init_2_6 : decode cJ1_init_2 6 = .ok (.return_, 1) := dk_177 (dk_at dksJ1_init_2_0 6 rfl rfl)
theorem q74 : (Jvm.Cond.initialized "java/lang/Exception") ∈ lw_all := lw_g (lw_at lw_m1 6 rfl) rfl
theorem q234 : (Jvm.Cond.declares ({ cls := "java/lang/Exception", name := "<init>", desc := "()V" } : Jvm.MethodName)) ∈ lw_tbl := lw_at lw_m1 166 rfl
theorem q235 : (Jvm.Cond.declares ({ cls := "java/lang/Exception", name := "<init>", desc := "(Ljava/lang/String;)V" } : Jvm.MethodName)) ∈ lw_tbl := lw_at lw_m1 167 rfl
theorem q279 : (Jvm.Cond.instanceMethod ({ cls := "java/lang/Exception", name := "<init>", desc := "(Ljava/lang/String;)V" } : Jvm.MethodName)) ∈ lw_all := lw_g (lw_at lw_m1 211 rfl) rfl
theorem q280 : (Jvm.Cond.code ({ cls := "java/lang/Exception", name := "<init>", desc := "(Ljava/lang/String;)V" } : Jvm.MethodName) prog_13_method_2_code (2 : Nat) (Option.none : Option Jvm.ClassFile.FieldType)) ∈ lw_all := lw_g (lw_at lw_m1 212 rfl) rfl
theorem q281 : (Jvm.Cond.methodLink "java/lang/Exception" (7 : Nat) ({ cls := "java/lang/Throwable", name := "<init>", desc := "(Ljava/lang/String;)V" } : Jvm.MethodName)) ∈ lw_all := lw_g (lw_at lw_m1 213 rfl) rfl
theorem q342 : (Jvm.Cond.instanceMethod ({ cls := "java/lang/Exception", name := "<init>", desc := "(Ljava/lang/String;Ljava/lang/Throwable;)V" } : Jvm.MethodName)) ∈ lw_all := lw_g (lw_at lw_m2 34 rfl) rfl
theorem q343 : (Jvm.Cond.code ({ cls := "java/lang/Exception", name := "<init>", desc := "(Ljava/lang/String;Ljava/lang/Throwable;)V" } : Jvm.MethodName) prog_13_method_3_code (3 : Nat) (Option.none : Option Jvm.ClassFile.FieldType)) ∈ lw_all := lw_g (lw_at lw_m2 35 rfl) rfl
theorem q344 : (Jvm.Cond.methodLink "java/lang/Exception" (10 : Nat) ({ cls := "java/lang/Throwable", name := "<init>", desc := "(Ljava/lang/String;Ljava/lang/Throwable;)V" } : Jvm.MethodName)) ∈ lw_all := lw_g (lw_at lw_m2 36 rfl) rfl

/-! java/lang/Math -/
set_option maxRecDepth 100000
def RJ2 : String := "java/lang/Math"
abbrev cJ2_min : ByteArray := prog_15_method_69_code
def yJ2_min : MethodName := ⟨RJ2, "min", "(II)I"⟩
def dkwJ2_min_0 : List UInt8 := [26, 27, 163, 0, 7, 26, 167, 0, 4, 27, 172]
abbrev dktJ2_min_0 : List UInt8 := dkwJ2_min_0 ++ []
theorem dksJ2_min_0 : cJ2_min.data.toList.drop 0 = dktJ2_min_0 := by decide +kernel
theorem dJ2_min_0 : decode cJ2_min 0 = .ok (.iload_n 0, 1) := dk_26 (dk_at dksJ2_min_0 0 rfl rfl)
theorem dJ2_min_1 : decode cJ2_min 1 = .ok (.iload_n 1, 1) := dk_27 (dk_at dksJ2_min_0 1 rfl rfl)
theorem dJ2_min_2 : decode cJ2_min 2 = .ok (.if_icmp .gt 7, 3) := dk_163 0 7 (dk_at dksJ2_min_0 2 rfl rfl)
theorem dJ2_min_5 : decode cJ2_min 5 = .ok (.iload_n 0, 1) := dk_26 (dk_at dksJ2_min_0 5 rfl rfl)
theorem dJ2_min_6 : decode cJ2_min 6 = .ok (.goto 4, 3) := dk_167 0 4 (dk_at dksJ2_min_0 6 rfl rfl)
theorem dJ2_min_9 : decode cJ2_min 9 = .ok (.iload_n 1, 1) := dk_27 (dk_at dksJ2_min_0 9 rfl rfl)
theorem dJ2_min_10 : decode cJ2_min 10 = .ok (.ireturn, 1) := dk_172 (dk_at dksJ2_min_0 10 rfl rfl)
abbrev cJ2_max : ByteArray := prog_15_method_65_code
def yJ2_max : MethodName := ⟨RJ2, "max", "(II)I"⟩
def dkwJ2_max_0 : List UInt8 := [26, 27, 161, 0, 7, 26, 167, 0, 4, 27, 172]
abbrev dktJ2_max_0 : List UInt8 := dkwJ2_max_0 ++ []
theorem dksJ2_max_0 : cJ2_max.data.toList.drop 0 = dktJ2_max_0 := by decide +kernel
theorem dJ2_max_0 : decode cJ2_max 0 = .ok (.iload_n 0, 1) := dk_26 (dk_at dksJ2_max_0 0 rfl rfl)
theorem dJ2_max_1 : decode cJ2_max 1 = .ok (.iload_n 1, 1) := dk_27 (dk_at dksJ2_max_0 1 rfl rfl)
theorem dJ2_max_2 : decode cJ2_max 2 = .ok (.if_icmp .lt 7, 3) := dk_161 0 7 (dk_at dksJ2_max_0 2 rfl rfl)
theorem dJ2_max_5 : decode cJ2_max 5 = .ok (.iload_n 0, 1) := dk_26 (dk_at dksJ2_max_0 5 rfl rfl)
theorem dJ2_max_6 : decode cJ2_max 6 = .ok (.goto 4, 3) := dk_167 0 4 (dk_at dksJ2_max_0 6 rfl rfl)
theorem dJ2_max_9 : decode cJ2_max 9 = .ok (.iload_n 1, 1) := dk_27 (dk_at dksJ2_max_0 9 rfl rfl)
theorem dJ2_max_10 : decode cJ2_max 10 = .ok (.ireturn, 1) := dk_172 (dk_at dksJ2_max_0 10 rfl rfl)
abbrev cJ2_floorDiv : ByteArray := prog_15_method_47_code
def yJ2_floorDiv : MethodName := ⟨RJ2, "floorDiv", "(II)I"⟩
def dkwJ2_floorDiv_0 : List UInt8 := [26, 27, 108, 61, 26, 27, 130, 156, 0, 14, 28, 27, 104, 26, 159, 0, 7, 28, 4, 100, 172, 28, 172]
abbrev dktJ2_floorDiv_0 : List UInt8 := dkwJ2_floorDiv_0 ++ []
theorem dksJ2_floorDiv_0 : cJ2_floorDiv.data.toList.drop 0 = dktJ2_floorDiv_0 := by decide +kernel
theorem dJ2_floorDiv_0 : decode cJ2_floorDiv 0 = .ok (.iload_n 0, 1) := dk_26 (dk_at dksJ2_floorDiv_0 0 rfl rfl)
theorem dJ2_floorDiv_1 : decode cJ2_floorDiv 1 = .ok (.iload_n 1, 1) := dk_27 (dk_at dksJ2_floorDiv_0 1 rfl rfl)
theorem dJ2_floorDiv_2 : decode cJ2_floorDiv 2 = .ok (.idiv, 1) := dk_108 (dk_at dksJ2_floorDiv_0 2 rfl rfl)
theorem dJ2_floorDiv_3 : decode cJ2_floorDiv 3 = .ok (.istore_n 2, 1) := dk_61 (dk_at dksJ2_floorDiv_0 3 rfl rfl)
theorem dJ2_floorDiv_4 : decode cJ2_floorDiv 4 = .ok (.iload_n 0, 1) := dk_26 (dk_at dksJ2_floorDiv_0 4 rfl rfl)
theorem dJ2_floorDiv_5 : decode cJ2_floorDiv 5 = .ok (.iload_n 1, 1) := dk_27 (dk_at dksJ2_floorDiv_0 5 rfl rfl)
theorem dJ2_floorDiv_6 : decode cJ2_floorDiv 6 = .ok (.ixor, 1) := dk_130 (dk_at dksJ2_floorDiv_0 6 rfl rfl)
theorem dJ2_floorDiv_7 : decode cJ2_floorDiv 7 = .ok (.ifCond .ge 14, 3) := dk_156 0 14 (dk_at dksJ2_floorDiv_0 7 rfl rfl)
theorem dJ2_floorDiv_10 : decode cJ2_floorDiv 10 = .ok (.iload_n 2, 1) := dk_28 (dk_at dksJ2_floorDiv_0 10 rfl rfl)
theorem dJ2_floorDiv_11 : decode cJ2_floorDiv 11 = .ok (.iload_n 1, 1) := dk_27 (dk_at dksJ2_floorDiv_0 11 rfl rfl)
theorem dJ2_floorDiv_12 : decode cJ2_floorDiv 12 = .ok (.imul, 1) := dk_104 (dk_at dksJ2_floorDiv_0 12 rfl rfl)
theorem dJ2_floorDiv_13 : decode cJ2_floorDiv 13 = .ok (.iload_n 0, 1) := dk_26 (dk_at dksJ2_floorDiv_0 13 rfl rfl)
theorem dJ2_floorDiv_14 : decode cJ2_floorDiv 14 = .ok (.if_icmp .eq 7, 3) := dk_159 0 7 (dk_at dksJ2_floorDiv_0 14 rfl rfl)
theorem dJ2_floorDiv_17 : decode cJ2_floorDiv 17 = .ok (.iload_n 2, 1) := dk_28 (dk_at dksJ2_floorDiv_0 17 rfl rfl)
theorem dJ2_floorDiv_18 : decode cJ2_floorDiv 18 = .ok (.iconst 1, 1) := dk_4 (dk_at dksJ2_floorDiv_0 18 rfl rfl)
theorem dJ2_floorDiv_19 : decode cJ2_floorDiv 19 = .ok (.isub, 1) := dk_100 (dk_at dksJ2_floorDiv_0 19 rfl rfl)
theorem dJ2_floorDiv_20 : decode cJ2_floorDiv 20 = .ok (.ireturn, 1) := dk_172 (dk_at dksJ2_floorDiv_0 20 rfl rfl)
theorem dJ2_floorDiv_21 : decode cJ2_floorDiv 21 = .ok (.iload_n 2, 1) := dk_28 (dk_at dksJ2_floorDiv_0 21 rfl rfl)
theorem dJ2_floorDiv_22 : decode cJ2_floorDiv 22 = .ok (.ireturn, 1) := dk_172 (dk_at dksJ2_floorDiv_0 22 rfl rfl)
abbrev cJ2_abs : ByteArray := prog_15_method_59_code
def yJ2_abs : MethodName := ⟨RJ2, "abs", "(I)I"⟩
def dkwJ2_abs_0 : List UInt8 := [26, 156, 0, 8, 26, 116, 167, 0, 4, 26, 172]
abbrev dktJ2_abs_0 : List UInt8 := dkwJ2_abs_0 ++ []
theorem dksJ2_abs_0 : cJ2_abs.data.toList.drop 0 = dktJ2_abs_0 := by decide +kernel
theorem dJ2_abs_0 : decode cJ2_abs 0 = .ok (.iload_n 0, 1) := dk_26 (dk_at dksJ2_abs_0 0 rfl rfl)
theorem dJ2_abs_1 : decode cJ2_abs 1 = .ok (.ifCond .ge 8, 3) := dk_156 0 8 (dk_at dksJ2_abs_0 1 rfl rfl)
theorem dJ2_abs_4 : decode cJ2_abs 4 = .ok (.iload_n 0, 1) := dk_26 (dk_at dksJ2_abs_0 4 rfl rfl)
theorem dJ2_abs_5 : decode cJ2_abs 5 = .ok (.ineg, 1) := dk_116 (dk_at dksJ2_abs_0 5 rfl rfl)
theorem dJ2_abs_6 : decode cJ2_abs 6 = .ok (.goto 4, 3) := dk_167 0 4 (dk_at dksJ2_abs_0 6 rfl rfl)
theorem dJ2_abs_9 : decode cJ2_abs 9 = .ok (.iload_n 0, 1) := dk_26 (dk_at dksJ2_abs_0 9 rfl rfl)
theorem dJ2_abs_10 : decode cJ2_abs 10 = .ok (.ireturn, 1) := dk_172 (dk_at dksJ2_abs_0 10 rfl rfl)
theorem q79 : (Jvm.Cond.initialized "java/lang/Math") ∈ lw_all := lw_g (lw_at lw_m1 11 rfl) rfl
theorem q367 : (Jvm.Cond.static ({ cls := "java/lang/Math", name := "min", desc := "(II)I" } : Jvm.MethodName)) ∈ lw_all := lw_g (lw_at lw_m2 59 rfl) rfl
theorem q368 : (Jvm.Cond.code ({ cls := "java/lang/Math", name := "min", desc := "(II)I" } : Jvm.MethodName) prog_15_method_69_code (2 : Nat) (Option.some Jvm.ClassFile.FieldType.int)) ∈ lw_all := lw_g (lw_at lw_m2 60 rfl) rfl
theorem q449 : (Jvm.Cond.static ({ cls := "java/lang/Math", name := "max", desc := "(II)I" } : Jvm.MethodName)) ∈ lw_all := lw_g (lw_at lw_m2 141 rfl) rfl
theorem q450 : (Jvm.Cond.code ({ cls := "java/lang/Math", name := "max", desc := "(II)I" } : Jvm.MethodName) prog_15_method_65_code (2 : Nat) (Option.some Jvm.ClassFile.FieldType.int)) ∈ lw_all := lw_g (lw_at lw_m2 142 rfl) rfl
theorem q521 : (Jvm.Cond.static ({ cls := "java/lang/Math", name := "floorDiv", desc := "(II)I" } : Jvm.MethodName)) ∈ lw_all := lw_g (lw_at lw_m2 213 rfl) rfl
theorem q522 : (Jvm.Cond.code ({ cls := "java/lang/Math", name := "floorDiv", desc := "(II)I" } : Jvm.MethodName) prog_15_method_47_code (3 : Nat) (Option.some Jvm.ClassFile.FieldType.int)) ∈ lw_all := lw_g (lw_at lw_m2 214 rfl) rfl
theorem q580 : (Jvm.Cond.static ({ cls := "java/lang/Math", name := "abs", desc := "(I)I" } : Jvm.MethodName)) ∈ lw_all := lw_g (lw_at lw_m3 32 rfl) rfl
theorem q581 : (Jvm.Cond.code ({ cls := "java/lang/Math", name := "abs", desc := "(I)I" } : Jvm.MethodName) prog_15_method_59_code (1 : Nat) (Option.some Jvm.ClassFile.FieldType.int)) ∈ lw_all := lw_g (lw_at lw_m3 33 rfl) rfl

/-! java/lang/Integer -/
set_option maxRecDepth 100000
def RJ3 : String := "java/lang/Integer"
abbrev cJ3_bitCount : ByteArray := prog_14_method_49_code
def yJ3_bitCount : MethodName := ⟨RJ3, "bitCount", "(I)I"⟩
def dkwJ3_bitCount_2 : List UInt8 := [26, 16, 63, 126, 172]
abbrev dktJ3_bitCount_2 : List UInt8 := dkwJ3_bitCount_2 ++ []
def dkwJ3_bitCount_1 : List UInt8 := [26, 26, 7, 124, 96, 19, 1, 11, 126, 59, 26, 26, 16, 8, 124, 96, 59, 26, 26, 16, 16, 124, 96, 59]
abbrev dktJ3_bitCount_1 : List UInt8 := dkwJ3_bitCount_1 ++ dktJ3_bitCount_2
def dkwJ3_bitCount_0 : List UInt8 := [26, 26, 4, 124, 19, 1, 9, 126, 100, 59, 26, 19, 1, 10, 126, 26, 5, 124, 19, 1, 10, 126, 96, 59]
abbrev dktJ3_bitCount_0 : List UInt8 := dkwJ3_bitCount_0 ++ dktJ3_bitCount_1
theorem dksJ3_bitCount_0 : cJ3_bitCount.data.toList.drop 0 = dktJ3_bitCount_0 := by decide +kernel
theorem dksJ3_bitCount_1 : cJ3_bitCount.data.toList.drop 24 = dktJ3_bitCount_1 := dk_seg dksJ3_bitCount_0 24 rfl rfl
theorem dksJ3_bitCount_2 : cJ3_bitCount.data.toList.drop 48 = dktJ3_bitCount_2 := dk_seg dksJ3_bitCount_1 24 rfl rfl
theorem dJ3_bitCount_0 : decode cJ3_bitCount 0 = .ok (.iload_n 0, 1) := dk_26 (dk_at dksJ3_bitCount_0 0 rfl rfl)
theorem dJ3_bitCount_1 : decode cJ3_bitCount 1 = .ok (.iload_n 0, 1) := dk_26 (dk_at dksJ3_bitCount_0 1 rfl rfl)
theorem dJ3_bitCount_2 : decode cJ3_bitCount 2 = .ok (.iconst 1, 1) := dk_4 (dk_at dksJ3_bitCount_0 2 rfl rfl)
theorem dJ3_bitCount_3 : decode cJ3_bitCount 3 = .ok (.iushr, 1) := dk_124 (dk_at dksJ3_bitCount_0 3 rfl rfl)
theorem dJ3_bitCount_4 : decode cJ3_bitCount 4 = .ok (.ldc_w 265, 3) := dk_19 1 9 (dk_at dksJ3_bitCount_0 4 rfl rfl)
theorem dJ3_bitCount_7 : decode cJ3_bitCount 7 = .ok (.iand, 1) := dk_126 (dk_at dksJ3_bitCount_0 7 rfl rfl)
theorem dJ3_bitCount_8 : decode cJ3_bitCount 8 = .ok (.isub, 1) := dk_100 (dk_at dksJ3_bitCount_0 8 rfl rfl)
theorem dJ3_bitCount_9 : decode cJ3_bitCount 9 = .ok (.istore_n 0, 1) := dk_59 (dk_at dksJ3_bitCount_0 9 rfl rfl)
theorem dJ3_bitCount_10 : decode cJ3_bitCount 10 = .ok (.iload_n 0, 1) := dk_26 (dk_at dksJ3_bitCount_0 10 rfl rfl)
theorem dJ3_bitCount_11 : decode cJ3_bitCount 11 = .ok (.ldc_w 266, 3) := dk_19 1 10 (dk_at dksJ3_bitCount_0 11 rfl rfl)
theorem dJ3_bitCount_14 : decode cJ3_bitCount 14 = .ok (.iand, 1) := dk_126 (dk_at dksJ3_bitCount_0 14 rfl rfl)
theorem dJ3_bitCount_15 : decode cJ3_bitCount 15 = .ok (.iload_n 0, 1) := dk_26 (dk_at dksJ3_bitCount_0 15 rfl rfl)
theorem dJ3_bitCount_16 : decode cJ3_bitCount 16 = .ok (.iconst 2, 1) := dk_5 (dk_at dksJ3_bitCount_0 16 rfl rfl)
theorem dJ3_bitCount_17 : decode cJ3_bitCount 17 = .ok (.iushr, 1) := dk_124 (dk_at dksJ3_bitCount_0 17 rfl rfl)
theorem dJ3_bitCount_18 : decode cJ3_bitCount 18 = .ok (.ldc_w 266, 3) := dk_19 1 10 (dk_at dksJ3_bitCount_0 18 rfl rfl)
theorem dJ3_bitCount_21 : decode cJ3_bitCount 21 = .ok (.iand, 1) := dk_126 (dk_at dksJ3_bitCount_0 21 rfl rfl)
theorem dJ3_bitCount_22 : decode cJ3_bitCount 22 = .ok (.iadd, 1) := dk_96 (dk_at dksJ3_bitCount_0 22 rfl rfl)
theorem dJ3_bitCount_23 : decode cJ3_bitCount 23 = .ok (.istore_n 0, 1) := dk_59 (dk_at dksJ3_bitCount_0 23 rfl rfl)
theorem dJ3_bitCount_24 : decode cJ3_bitCount 24 = .ok (.iload_n 0, 1) := dk_26 (dk_at dksJ3_bitCount_1 0 rfl rfl)
theorem dJ3_bitCount_25 : decode cJ3_bitCount 25 = .ok (.iload_n 0, 1) := dk_26 (dk_at dksJ3_bitCount_1 1 rfl rfl)
theorem dJ3_bitCount_26 : decode cJ3_bitCount 26 = .ok (.iconst 4, 1) := dk_7 (dk_at dksJ3_bitCount_1 2 rfl rfl)
theorem dJ3_bitCount_27 : decode cJ3_bitCount 27 = .ok (.iushr, 1) := dk_124 (dk_at dksJ3_bitCount_1 3 rfl rfl)
theorem dJ3_bitCount_28 : decode cJ3_bitCount 28 = .ok (.iadd, 1) := dk_96 (dk_at dksJ3_bitCount_1 4 rfl rfl)
theorem dJ3_bitCount_29 : decode cJ3_bitCount 29 = .ok (.ldc_w 267, 3) := dk_19 1 11 (dk_at dksJ3_bitCount_1 5 rfl rfl)
theorem dJ3_bitCount_32 : decode cJ3_bitCount 32 = .ok (.iand, 1) := dk_126 (dk_at dksJ3_bitCount_1 8 rfl rfl)
theorem dJ3_bitCount_33 : decode cJ3_bitCount 33 = .ok (.istore_n 0, 1) := dk_59 (dk_at dksJ3_bitCount_1 9 rfl rfl)
theorem dJ3_bitCount_34 : decode cJ3_bitCount 34 = .ok (.iload_n 0, 1) := dk_26 (dk_at dksJ3_bitCount_1 10 rfl rfl)
theorem dJ3_bitCount_35 : decode cJ3_bitCount 35 = .ok (.iload_n 0, 1) := dk_26 (dk_at dksJ3_bitCount_1 11 rfl rfl)
theorem dJ3_bitCount_36 : decode cJ3_bitCount 36 = .ok (.bipush 8, 2) := dk_16 8 (dk_at dksJ3_bitCount_1 12 rfl rfl)
theorem dJ3_bitCount_38 : decode cJ3_bitCount 38 = .ok (.iushr, 1) := dk_124 (dk_at dksJ3_bitCount_1 14 rfl rfl)
theorem dJ3_bitCount_39 : decode cJ3_bitCount 39 = .ok (.iadd, 1) := dk_96 (dk_at dksJ3_bitCount_1 15 rfl rfl)
theorem dJ3_bitCount_40 : decode cJ3_bitCount 40 = .ok (.istore_n 0, 1) := dk_59 (dk_at dksJ3_bitCount_1 16 rfl rfl)
theorem dJ3_bitCount_41 : decode cJ3_bitCount 41 = .ok (.iload_n 0, 1) := dk_26 (dk_at dksJ3_bitCount_1 17 rfl rfl)
theorem dJ3_bitCount_42 : decode cJ3_bitCount 42 = .ok (.iload_n 0, 1) := dk_26 (dk_at dksJ3_bitCount_1 18 rfl rfl)
theorem dJ3_bitCount_43 : decode cJ3_bitCount 43 = .ok (.bipush 16, 2) := dk_16 16 (dk_at dksJ3_bitCount_1 19 rfl rfl)
theorem dJ3_bitCount_45 : decode cJ3_bitCount 45 = .ok (.iushr, 1) := dk_124 (dk_at dksJ3_bitCount_1 21 rfl rfl)
theorem dJ3_bitCount_46 : decode cJ3_bitCount 46 = .ok (.iadd, 1) := dk_96 (dk_at dksJ3_bitCount_1 22 rfl rfl)
theorem dJ3_bitCount_47 : decode cJ3_bitCount 47 = .ok (.istore_n 0, 1) := dk_59 (dk_at dksJ3_bitCount_1 23 rfl rfl)
theorem dJ3_bitCount_48 : decode cJ3_bitCount 48 = .ok (.iload_n 0, 1) := dk_26 (dk_at dksJ3_bitCount_2 0 rfl rfl)
theorem dJ3_bitCount_49 : decode cJ3_bitCount 49 = .ok (.bipush 63, 2) := dk_16 63 (dk_at dksJ3_bitCount_2 1 rfl rfl)
theorem dJ3_bitCount_51 : decode cJ3_bitCount 51 = .ok (.iand, 1) := dk_126 (dk_at dksJ3_bitCount_2 3 rfl rfl)
theorem dJ3_bitCount_52 : decode cJ3_bitCount 52 = .ok (.ireturn, 1) := dk_172 (dk_at dksJ3_bitCount_2 4 rfl rfl)
theorem q82 : (Jvm.Cond.initialized "java/lang/Integer") ∈ lw_all := lw_g (lw_at lw_m1 14 rfl) rfl
theorem q457 : (Jvm.Cond.static ({ cls := "java/lang/Integer", name := "bitCount", desc := "(I)I" } : Jvm.MethodName)) ∈ lw_all := lw_g (lw_at lw_m2 149 rfl) rfl
theorem q458 : (Jvm.Cond.code ({ cls := "java/lang/Integer", name := "bitCount", desc := "(I)I" } : Jvm.MethodName) prog_14_method_49_code (1 : Nat) (Option.some Jvm.ClassFile.FieldType.int)) ∈ lw_all := lw_g (lw_at lw_m2 150 rfl) rfl
theorem q459 : (Jvm.Cond.constant "java/lang/Integer" (265 : Nat) (1431655765 : Int32)) ∈ lw_all := lw_g (lw_at lw_m2 151 rfl) rfl
theorem q460 : (Jvm.Cond.constant "java/lang/Integer" (266 : Nat) (858993459 : Int32)) ∈ lw_all := lw_g (lw_at lw_m2 152 rfl) rfl
theorem q461 : (Jvm.Cond.constant "java/lang/Integer" (267 : Nat) (252645135 : Int32)) ∈ lw_all := lw_g (lw_at lw_m2 153 rfl) rfl

/-! java/lang/Object -/
set_option maxRecDepth 100000
def RJ4 : String := "java/lang/Object"
abbrev cJ4_init : ByteArray := object_method_1_code
def yJ4_init : MethodName := ⟨RJ4, "<init>", "()V"⟩
theorem dJ4_init_0 : decode cJ4_init 0 = .ok (.return_, 1) := by decide +kernel
theorem q111 : (Jvm.Cond.instanceMethod ({ cls := "java/lang/Object", name := "<init>", desc := "()V" } : Jvm.MethodName)) ∈ lw_all := lw_g (lw_at lw_m1 43 rfl) rfl
theorem q112 : (Jvm.Cond.code ({ cls := "java/lang/Object", name := "<init>", desc := "()V" } : Jvm.MethodName) object_method_1_code (1 : Nat) (Option.none : Option Jvm.ClassFile.FieldType)) ∈ lw_all := lw_g (lw_at lw_m1 44 rfl) rfl

/-! LiarClocks$House -/
set_option maxRecDepth 100000
def RX1 : String := "LiarClocks$House"
def TX1 : u_T := fun k => match k with
  | 0 => ("LiarClocks$House", "many", "I", false)
  | 1 => ("LiarClocks$House", "strike", "I", false)
  | 2 => ("LiarClocks$House", "step", "I", false)
  | 3 => ("LiarClocks$House", "values", "[I", true)
  | 4 => ("LiarClocks$House", "rates", "[I", true)
  | 5 => ("LiarClocks$House", "ahead", "[I", true)
  | 6 => ("LiarClocks$House", "lies", "[Z", true)
  | 7 => ("LiarClocks$House", "stands", "[Z", true)
  | 8 => ("LiarClocks$House", "lie", "[I", true)
  | 9 => ("LiarClocks$House", "error", "[I", true)
  | 10 => ("LiarClocks$House", "alarms", "I", false)
  | 11 => ("LiarClocks$House", "alarmOf", "[I", true)
  | 12 => ("LiarClocks$House", "alarmAt", "[I", true)
  | 13 => ("LiarClocks$House", "isRung", "[Z", true)
  | _ => ("LiarClocks$House", "times", "I", false)
def tyX1 : Nat → FieldType := fun k => match k with
  | 0 => .int
  | 1 => .int
  | 2 => .int
  | 3 => .array .int
  | 4 => .array .int
  | 5 => .array .int
  | 6 => .array .boolean
  | 7 => .array .boolean
  | 8 => .array .int
  | 9 => .array .int
  | 10 => .int
  | 11 => .array .int
  | 12 => .array .int
  | 13 => .array .boolean
  | _ => .int
abbrev wsX10 : List Cond := u_ws RX1 TX1 15
set_option maxRecDepth 100000 in
theorem nmX1 : ∀ a, a < 15 → ∀ b, b < 15 → a ≠ b → (TX1 a).2.1 ≠ (TX1 b).2.1 := by decide +kernel
set_option maxRecDepth 100000 in
theorem tyX1_ok : ∀ k, k < 15 → parseFieldDescriptor (TX1 k).2.2.1 = some (tyX1 k) := by decide +kernel
abbrev cX1_init : ByteArray := prog_3_method_1_code
def yX1_init : MethodName := ⟨RX1, "<init>", "()V"⟩
def dkwX1_init_3 : List UInt8 := [181, 0, 38, 42, 16, 6, 188, 10, 181, 0, 41, 42, 16, 6, 188, 4, 181, 0, 44, 177]
abbrev dktX1_init_3 : List UInt8 := dkwX1_init_3 ++ []
def dkwX1_init_2 : List UInt8 := [181, 0, 29, 42, 16, 64, 188, 10, 181, 0, 32, 42, 16, 64, 188, 10, 181, 0, 35, 42, 16, 6, 188, 10]
abbrev dktX1_init_2 : List UInt8 := dkwX1_init_2 ++ dktX1_init_3
def dkwX1_init_1 : List UInt8 := [181, 0, 19, 42, 16, 8, 188, 10, 181, 0, 22, 42, 16, 8, 188, 4, 181, 0, 25, 42, 16, 8, 188, 4]
abbrev dktX1_init_1 : List UInt8 := dkwX1_init_1 ++ dktX1_init_2
def dkwX1_init_0 : List UInt8 := [42, 183, 0, 3, 42, 16, 10, 181, 0, 9, 42, 16, 8, 188, 10, 181, 0, 15, 42, 16, 8, 188, 10]
abbrev dktX1_init_0 : List UInt8 := dkwX1_init_0 ++ dktX1_init_1
theorem dksX1_init_0 : cX1_init.data.toList.drop 0 = dktX1_init_0 := by decide +kernel
theorem dksX1_init_1 : cX1_init.data.toList.drop 23 = dktX1_init_1 := dk_seg dksX1_init_0 23 rfl rfl
theorem dksX1_init_2 : cX1_init.data.toList.drop 47 = dktX1_init_2 := dk_seg dksX1_init_1 24 rfl rfl
theorem dksX1_init_3 : cX1_init.data.toList.drop 71 = dktX1_init_3 := dk_seg dksX1_init_2 24 rfl rfl
theorem dX1_init_0 : decode cX1_init 0 = .ok (.aload_n 0, 1) := dk_42 (dk_at dksX1_init_0 0 rfl rfl)
theorem dX1_init_1 : decode cX1_init 1 = .ok (.invokespecial 3, 3) := dk_183 0 3 (dk_at dksX1_init_0 1 rfl rfl)
theorem dX1_init_4 : decode cX1_init 4 = .ok (.aload_n 0, 1) := dk_42 (dk_at dksX1_init_0 4 rfl rfl)
theorem dX1_init_5 : decode cX1_init 5 = .ok (.bipush 10, 2) := dk_16 10 (dk_at dksX1_init_0 5 rfl rfl)
theorem dX1_init_7 : decode cX1_init 7 = .ok (.putfield 9, 3) := dk_181 0 9 (dk_at dksX1_init_0 7 rfl rfl)
theorem dX1_init_10 : decode cX1_init 10 = .ok (.aload_n 0, 1) := dk_42 (dk_at dksX1_init_0 10 rfl rfl)
theorem dX1_init_11 : decode cX1_init 11 = .ok (.bipush 8, 2) := dk_16 8 (dk_at dksX1_init_0 11 rfl rfl)
theorem dX1_init_13 : decode cX1_init 13 = .ok (.newarray .int, 2) := dk_188_10 (dk_at dksX1_init_0 13 rfl rfl)
theorem dX1_init_15 : decode cX1_init 15 = .ok (.putfield 15, 3) := dk_181 0 15 (dk_at dksX1_init_0 15 rfl rfl)
theorem dX1_init_18 : decode cX1_init 18 = .ok (.aload_n 0, 1) := dk_42 (dk_at dksX1_init_0 18 rfl rfl)
theorem dX1_init_19 : decode cX1_init 19 = .ok (.bipush 8, 2) := dk_16 8 (dk_at dksX1_init_0 19 rfl rfl)
theorem dX1_init_21 : decode cX1_init 21 = .ok (.newarray .int, 2) := dk_188_10 (dk_at dksX1_init_0 21 rfl rfl)
theorem dX1_init_23 : decode cX1_init 23 = .ok (.putfield 19, 3) := dk_181 0 19 (dk_at dksX1_init_1 0 rfl rfl)
theorem dX1_init_26 : decode cX1_init 26 = .ok (.aload_n 0, 1) := dk_42 (dk_at dksX1_init_1 3 rfl rfl)
theorem dX1_init_27 : decode cX1_init 27 = .ok (.bipush 8, 2) := dk_16 8 (dk_at dksX1_init_1 4 rfl rfl)
theorem dX1_init_29 : decode cX1_init 29 = .ok (.newarray .int, 2) := dk_188_10 (dk_at dksX1_init_1 6 rfl rfl)
theorem dX1_init_31 : decode cX1_init 31 = .ok (.putfield 22, 3) := dk_181 0 22 (dk_at dksX1_init_1 8 rfl rfl)
theorem dX1_init_34 : decode cX1_init 34 = .ok (.aload_n 0, 1) := dk_42 (dk_at dksX1_init_1 11 rfl rfl)
theorem dX1_init_35 : decode cX1_init 35 = .ok (.bipush 8, 2) := dk_16 8 (dk_at dksX1_init_1 12 rfl rfl)
theorem dX1_init_37 : decode cX1_init 37 = .ok (.newarray .boolean, 2) := dk_188_4 (dk_at dksX1_init_1 14 rfl rfl)
theorem dX1_init_39 : decode cX1_init 39 = .ok (.putfield 25, 3) := dk_181 0 25 (dk_at dksX1_init_1 16 rfl rfl)
theorem dX1_init_42 : decode cX1_init 42 = .ok (.aload_n 0, 1) := dk_42 (dk_at dksX1_init_1 19 rfl rfl)
theorem dX1_init_43 : decode cX1_init 43 = .ok (.bipush 8, 2) := dk_16 8 (dk_at dksX1_init_1 20 rfl rfl)
theorem dX1_init_45 : decode cX1_init 45 = .ok (.newarray .boolean, 2) := dk_188_4 (dk_at dksX1_init_1 22 rfl rfl)
theorem dX1_init_47 : decode cX1_init 47 = .ok (.putfield 29, 3) := dk_181 0 29 (dk_at dksX1_init_2 0 rfl rfl)
theorem dX1_init_50 : decode cX1_init 50 = .ok (.aload_n 0, 1) := dk_42 (dk_at dksX1_init_2 3 rfl rfl)
theorem dX1_init_51 : decode cX1_init 51 = .ok (.bipush 64, 2) := dk_16 64 (dk_at dksX1_init_2 4 rfl rfl)
theorem dX1_init_53 : decode cX1_init 53 = .ok (.newarray .int, 2) := dk_188_10 (dk_at dksX1_init_2 6 rfl rfl)
theorem dX1_init_55 : decode cX1_init 55 = .ok (.putfield 32, 3) := dk_181 0 32 (dk_at dksX1_init_2 8 rfl rfl)
theorem dX1_init_58 : decode cX1_init 58 = .ok (.aload_n 0, 1) := dk_42 (dk_at dksX1_init_2 11 rfl rfl)
theorem dX1_init_59 : decode cX1_init 59 = .ok (.bipush 64, 2) := dk_16 64 (dk_at dksX1_init_2 12 rfl rfl)
theorem dX1_init_61 : decode cX1_init 61 = .ok (.newarray .int, 2) := dk_188_10 (dk_at dksX1_init_2 14 rfl rfl)
theorem dX1_init_63 : decode cX1_init 63 = .ok (.putfield 35, 3) := dk_181 0 35 (dk_at dksX1_init_2 16 rfl rfl)
theorem dX1_init_66 : decode cX1_init 66 = .ok (.aload_n 0, 1) := dk_42 (dk_at dksX1_init_2 19 rfl rfl)
theorem dX1_init_67 : decode cX1_init 67 = .ok (.bipush 6, 2) := dk_16 6 (dk_at dksX1_init_2 20 rfl rfl)
theorem dX1_init_69 : decode cX1_init 69 = .ok (.newarray .int, 2) := dk_188_10 (dk_at dksX1_init_2 22 rfl rfl)
theorem dX1_init_71 : decode cX1_init 71 = .ok (.putfield 38, 3) := dk_181 0 38 (dk_at dksX1_init_3 0 rfl rfl)
theorem dX1_init_74 : decode cX1_init 74 = .ok (.aload_n 0, 1) := dk_42 (dk_at dksX1_init_3 3 rfl rfl)
theorem dX1_init_75 : decode cX1_init 75 = .ok (.bipush 6, 2) := dk_16 6 (dk_at dksX1_init_3 4 rfl rfl)
theorem dX1_init_77 : decode cX1_init 77 = .ok (.newarray .int, 2) := dk_188_10 (dk_at dksX1_init_3 6 rfl rfl)
theorem dX1_init_79 : decode cX1_init 79 = .ok (.putfield 41, 3) := dk_181 0 41 (dk_at dksX1_init_3 8 rfl rfl)
theorem dX1_init_82 : decode cX1_init 82 = .ok (.aload_n 0, 1) := dk_42 (dk_at dksX1_init_3 11 rfl rfl)
theorem dX1_init_83 : decode cX1_init 83 = .ok (.bipush 6, 2) := dk_16 6 (dk_at dksX1_init_3 12 rfl rfl)
theorem dX1_init_85 : decode cX1_init 85 = .ok (.newarray .boolean, 2) := dk_188_4 (dk_at dksX1_init_3 14 rfl rfl)
theorem dX1_init_87 : decode cX1_init 87 = .ok (.putfield 44, 3) := dk_181 0 44 (dk_at dksX1_init_3 16 rfl rfl)
theorem dX1_init_90 : decode cX1_init 90 = .ok (.return_, 1) := dk_177 (dk_at dksX1_init_3 19 rfl rfl)
abbrev cX1_become : ByteArray := prog_3_method_2_code
def yX1_become : MethodName := ⟨RX1, "become", "(LLiarClocks$House;)V"⟩
def dkwX1_become_8 : List UInt8 := [184, 0, 59, 177]
abbrev dktX1_become_8 : List UInt8 := dkwX1_become_8 ++ []
def dkwX1_become_7 : List UInt8 := [3, 42, 180, 0, 41, 3, 16, 6, 184, 0, 59, 43, 180, 0, 44, 3, 42, 180, 0, 44, 3, 16, 6]
abbrev dktX1_become_7 : List UInt8 := dkwX1_become_7 ++ dktX1_become_8
def dkwX1_become_6 : List UInt8 := [16, 64, 184, 0, 59, 43, 180, 0, 38, 3, 42, 180, 0, 38, 3, 16, 6, 184, 0, 59, 43, 180, 0, 41]
abbrev dktX1_become_6 : List UInt8 := dkwX1_become_6 ++ dktX1_become_7
def dkwX1_become_5 : List UInt8 := [180, 0, 32, 3, 42, 180, 0, 32, 3, 16, 64, 184, 0, 59, 43, 180, 0, 35, 3, 42, 180, 0, 35, 3]
abbrev dktX1_become_5 : List UInt8 := dkwX1_become_5 ++ dktX1_become_6
def dkwX1_become_4 : List UInt8 := [3, 16, 8, 184, 0, 59, 43, 180, 0, 29, 3, 42, 180, 0, 29, 3, 16, 8, 184, 0, 59, 43]
abbrev dktX1_become_4 : List UInt8 := dkwX1_become_4 ++ dktX1_become_5
def dkwX1_become_3 : List UInt8 := [43, 180, 0, 22, 3, 42, 180, 0, 22, 3, 16, 8, 184, 0, 59, 43, 180, 0, 25, 3, 42, 180, 0, 25]
abbrev dktX1_become_3 : List UInt8 := dkwX1_become_3 ++ dktX1_become_4
def dkwX1_become_2 : List UInt8 := [180, 0, 15, 3, 16, 8, 184, 0, 59, 43, 180, 0, 19, 3, 42, 180, 0, 19, 3, 16, 8, 184, 0, 59]
abbrev dktX1_become_2 : List UInt8 := dkwX1_become_2 ++ dktX1_become_3
def dkwX1_become_1 : List UInt8 := [42, 43, 180, 0, 53, 181, 0, 53, 42, 43, 180, 0, 56, 181, 0, 56, 43, 180, 0, 15, 3, 42]
abbrev dktX1_become_1 : List UInt8 := dkwX1_become_1 ++ dktX1_become_2
def dkwX1_become_0 : List UInt8 := [42, 43, 180, 0, 47, 181, 0, 47, 42, 43, 180, 0, 50, 181, 0, 50, 42, 43, 180, 0, 9, 181, 0, 9]
abbrev dktX1_become_0 : List UInt8 := dkwX1_become_0 ++ dktX1_become_1
theorem dksX1_become_0 : cX1_become.data.toList.drop 0 = dktX1_become_0 := by decide +kernel
theorem dksX1_become_1 : cX1_become.data.toList.drop 24 = dktX1_become_1 := dk_seg dksX1_become_0 24 rfl rfl
theorem dksX1_become_2 : cX1_become.data.toList.drop 46 = dktX1_become_2 := dk_seg dksX1_become_1 22 rfl rfl
theorem dksX1_become_3 : cX1_become.data.toList.drop 70 = dktX1_become_3 := dk_seg dksX1_become_2 24 rfl rfl
theorem dksX1_become_4 : cX1_become.data.toList.drop 94 = dktX1_become_4 := dk_seg dksX1_become_3 24 rfl rfl
theorem dksX1_become_5 : cX1_become.data.toList.drop 116 = dktX1_become_5 := dk_seg dksX1_become_4 22 rfl rfl
theorem dksX1_become_6 : cX1_become.data.toList.drop 140 = dktX1_become_6 := dk_seg dksX1_become_5 24 rfl rfl
theorem dksX1_become_7 : cX1_become.data.toList.drop 164 = dktX1_become_7 := dk_seg dksX1_become_6 24 rfl rfl
theorem dksX1_become_8 : cX1_become.data.toList.drop 187 = dktX1_become_8 := dk_seg dksX1_become_7 23 rfl rfl
theorem dX1_become_0 : decode cX1_become 0 = .ok (.aload_n 0, 1) := dk_42 (dk_at dksX1_become_0 0 rfl rfl)
theorem dX1_become_1 : decode cX1_become 1 = .ok (.aload_n 1, 1) := dk_43 (dk_at dksX1_become_0 1 rfl rfl)
theorem dX1_become_2 : decode cX1_become 2 = .ok (.getfield 47, 3) := dk_180 0 47 (dk_at dksX1_become_0 2 rfl rfl)
theorem dX1_become_5 : decode cX1_become 5 = .ok (.putfield 47, 3) := dk_181 0 47 (dk_at dksX1_become_0 5 rfl rfl)
theorem dX1_become_8 : decode cX1_become 8 = .ok (.aload_n 0, 1) := dk_42 (dk_at dksX1_become_0 8 rfl rfl)
theorem dX1_become_9 : decode cX1_become 9 = .ok (.aload_n 1, 1) := dk_43 (dk_at dksX1_become_0 9 rfl rfl)
theorem dX1_become_10 : decode cX1_become 10 = .ok (.getfield 50, 3) := dk_180 0 50 (dk_at dksX1_become_0 10 rfl rfl)
theorem dX1_become_13 : decode cX1_become 13 = .ok (.putfield 50, 3) := dk_181 0 50 (dk_at dksX1_become_0 13 rfl rfl)
theorem dX1_become_16 : decode cX1_become 16 = .ok (.aload_n 0, 1) := dk_42 (dk_at dksX1_become_0 16 rfl rfl)
theorem dX1_become_17 : decode cX1_become 17 = .ok (.aload_n 1, 1) := dk_43 (dk_at dksX1_become_0 17 rfl rfl)
theorem dX1_become_18 : decode cX1_become 18 = .ok (.getfield 9, 3) := dk_180 0 9 (dk_at dksX1_become_0 18 rfl rfl)
theorem dX1_become_21 : decode cX1_become 21 = .ok (.putfield 9, 3) := dk_181 0 9 (dk_at dksX1_become_0 21 rfl rfl)
theorem dX1_become_24 : decode cX1_become 24 = .ok (.aload_n 0, 1) := dk_42 (dk_at dksX1_become_1 0 rfl rfl)
theorem dX1_become_25 : decode cX1_become 25 = .ok (.aload_n 1, 1) := dk_43 (dk_at dksX1_become_1 1 rfl rfl)
theorem dX1_become_26 : decode cX1_become 26 = .ok (.getfield 53, 3) := dk_180 0 53 (dk_at dksX1_become_1 2 rfl rfl)
theorem dX1_become_29 : decode cX1_become 29 = .ok (.putfield 53, 3) := dk_181 0 53 (dk_at dksX1_become_1 5 rfl rfl)
theorem dX1_become_32 : decode cX1_become 32 = .ok (.aload_n 0, 1) := dk_42 (dk_at dksX1_become_1 8 rfl rfl)
theorem dX1_become_33 : decode cX1_become 33 = .ok (.aload_n 1, 1) := dk_43 (dk_at dksX1_become_1 9 rfl rfl)
theorem dX1_become_34 : decode cX1_become 34 = .ok (.getfield 56, 3) := dk_180 0 56 (dk_at dksX1_become_1 10 rfl rfl)
theorem dX1_become_37 : decode cX1_become 37 = .ok (.putfield 56, 3) := dk_181 0 56 (dk_at dksX1_become_1 13 rfl rfl)
theorem dX1_become_40 : decode cX1_become 40 = .ok (.aload_n 1, 1) := dk_43 (dk_at dksX1_become_1 16 rfl rfl)
theorem dX1_become_41 : decode cX1_become 41 = .ok (.getfield 15, 3) := dk_180 0 15 (dk_at dksX1_become_1 17 rfl rfl)
theorem dX1_become_44 : decode cX1_become 44 = .ok (.iconst 0, 1) := dk_3 (dk_at dksX1_become_1 20 rfl rfl)
theorem dX1_become_45 : decode cX1_become 45 = .ok (.aload_n 0, 1) := dk_42 (dk_at dksX1_become_1 21 rfl rfl)
theorem dX1_become_46 : decode cX1_become 46 = .ok (.getfield 15, 3) := dk_180 0 15 (dk_at dksX1_become_2 0 rfl rfl)
theorem dX1_become_49 : decode cX1_become 49 = .ok (.iconst 0, 1) := dk_3 (dk_at dksX1_become_2 3 rfl rfl)
theorem dX1_become_50 : decode cX1_become 50 = .ok (.bipush 8, 2) := dk_16 8 (dk_at dksX1_become_2 4 rfl rfl)
theorem dX1_become_52 : decode cX1_become 52 = .ok (.invokestatic 59, 3) := dk_184 0 59 (dk_at dksX1_become_2 6 rfl rfl)
theorem dX1_become_55 : decode cX1_become 55 = .ok (.aload_n 1, 1) := dk_43 (dk_at dksX1_become_2 9 rfl rfl)
theorem dX1_become_56 : decode cX1_become 56 = .ok (.getfield 19, 3) := dk_180 0 19 (dk_at dksX1_become_2 10 rfl rfl)
theorem dX1_become_59 : decode cX1_become 59 = .ok (.iconst 0, 1) := dk_3 (dk_at dksX1_become_2 13 rfl rfl)
theorem dX1_become_60 : decode cX1_become 60 = .ok (.aload_n 0, 1) := dk_42 (dk_at dksX1_become_2 14 rfl rfl)
theorem dX1_become_61 : decode cX1_become 61 = .ok (.getfield 19, 3) := dk_180 0 19 (dk_at dksX1_become_2 15 rfl rfl)
theorem dX1_become_64 : decode cX1_become 64 = .ok (.iconst 0, 1) := dk_3 (dk_at dksX1_become_2 18 rfl rfl)
theorem dX1_become_65 : decode cX1_become 65 = .ok (.bipush 8, 2) := dk_16 8 (dk_at dksX1_become_2 19 rfl rfl)
theorem dX1_become_67 : decode cX1_become 67 = .ok (.invokestatic 59, 3) := dk_184 0 59 (dk_at dksX1_become_2 21 rfl rfl)
theorem dX1_become_70 : decode cX1_become 70 = .ok (.aload_n 1, 1) := dk_43 (dk_at dksX1_become_3 0 rfl rfl)
theorem dX1_become_71 : decode cX1_become 71 = .ok (.getfield 22, 3) := dk_180 0 22 (dk_at dksX1_become_3 1 rfl rfl)
theorem dX1_become_74 : decode cX1_become 74 = .ok (.iconst 0, 1) := dk_3 (dk_at dksX1_become_3 4 rfl rfl)
theorem dX1_become_75 : decode cX1_become 75 = .ok (.aload_n 0, 1) := dk_42 (dk_at dksX1_become_3 5 rfl rfl)
theorem dX1_become_76 : decode cX1_become 76 = .ok (.getfield 22, 3) := dk_180 0 22 (dk_at dksX1_become_3 6 rfl rfl)
theorem dX1_become_79 : decode cX1_become 79 = .ok (.iconst 0, 1) := dk_3 (dk_at dksX1_become_3 9 rfl rfl)
theorem dX1_become_80 : decode cX1_become 80 = .ok (.bipush 8, 2) := dk_16 8 (dk_at dksX1_become_3 10 rfl rfl)
theorem dX1_become_82 : decode cX1_become 82 = .ok (.invokestatic 59, 3) := dk_184 0 59 (dk_at dksX1_become_3 12 rfl rfl)
theorem dX1_become_85 : decode cX1_become 85 = .ok (.aload_n 1, 1) := dk_43 (dk_at dksX1_become_3 15 rfl rfl)
theorem dX1_become_86 : decode cX1_become 86 = .ok (.getfield 25, 3) := dk_180 0 25 (dk_at dksX1_become_3 16 rfl rfl)
theorem dX1_become_89 : decode cX1_become 89 = .ok (.iconst 0, 1) := dk_3 (dk_at dksX1_become_3 19 rfl rfl)
theorem dX1_become_90 : decode cX1_become 90 = .ok (.aload_n 0, 1) := dk_42 (dk_at dksX1_become_3 20 rfl rfl)
theorem dX1_become_91 : decode cX1_become 91 = .ok (.getfield 25, 3) := dk_180 0 25 (dk_at dksX1_become_3 21 rfl rfl)
theorem dX1_become_94 : decode cX1_become 94 = .ok (.iconst 0, 1) := dk_3 (dk_at dksX1_become_4 0 rfl rfl)
theorem dX1_become_95 : decode cX1_become 95 = .ok (.bipush 8, 2) := dk_16 8 (dk_at dksX1_become_4 1 rfl rfl)
theorem dX1_become_97 : decode cX1_become 97 = .ok (.invokestatic 59, 3) := dk_184 0 59 (dk_at dksX1_become_4 3 rfl rfl)
theorem dX1_become_100 : decode cX1_become 100 = .ok (.aload_n 1, 1) := dk_43 (dk_at dksX1_become_4 6 rfl rfl)
theorem dX1_become_101 : decode cX1_become 101 = .ok (.getfield 29, 3) := dk_180 0 29 (dk_at dksX1_become_4 7 rfl rfl)
theorem dX1_become_104 : decode cX1_become 104 = .ok (.iconst 0, 1) := dk_3 (dk_at dksX1_become_4 10 rfl rfl)
theorem dX1_become_105 : decode cX1_become 105 = .ok (.aload_n 0, 1) := dk_42 (dk_at dksX1_become_4 11 rfl rfl)
theorem dX1_become_106 : decode cX1_become 106 = .ok (.getfield 29, 3) := dk_180 0 29 (dk_at dksX1_become_4 12 rfl rfl)
theorem dX1_become_109 : decode cX1_become 109 = .ok (.iconst 0, 1) := dk_3 (dk_at dksX1_become_4 15 rfl rfl)
theorem dX1_become_110 : decode cX1_become 110 = .ok (.bipush 8, 2) := dk_16 8 (dk_at dksX1_become_4 16 rfl rfl)
theorem dX1_become_112 : decode cX1_become 112 = .ok (.invokestatic 59, 3) := dk_184 0 59 (dk_at dksX1_become_4 18 rfl rfl)
theorem dX1_become_115 : decode cX1_become 115 = .ok (.aload_n 1, 1) := dk_43 (dk_at dksX1_become_4 21 rfl rfl)
theorem dX1_become_116 : decode cX1_become 116 = .ok (.getfield 32, 3) := dk_180 0 32 (dk_at dksX1_become_5 0 rfl rfl)
theorem dX1_become_119 : decode cX1_become 119 = .ok (.iconst 0, 1) := dk_3 (dk_at dksX1_become_5 3 rfl rfl)
theorem dX1_become_120 : decode cX1_become 120 = .ok (.aload_n 0, 1) := dk_42 (dk_at dksX1_become_5 4 rfl rfl)
theorem dX1_become_121 : decode cX1_become 121 = .ok (.getfield 32, 3) := dk_180 0 32 (dk_at dksX1_become_5 5 rfl rfl)
theorem dX1_become_124 : decode cX1_become 124 = .ok (.iconst 0, 1) := dk_3 (dk_at dksX1_become_5 8 rfl rfl)
theorem dX1_become_125 : decode cX1_become 125 = .ok (.bipush 64, 2) := dk_16 64 (dk_at dksX1_become_5 9 rfl rfl)
theorem dX1_become_127 : decode cX1_become 127 = .ok (.invokestatic 59, 3) := dk_184 0 59 (dk_at dksX1_become_5 11 rfl rfl)
theorem dX1_become_130 : decode cX1_become 130 = .ok (.aload_n 1, 1) := dk_43 (dk_at dksX1_become_5 14 rfl rfl)
theorem dX1_become_131 : decode cX1_become 131 = .ok (.getfield 35, 3) := dk_180 0 35 (dk_at dksX1_become_5 15 rfl rfl)
theorem dX1_become_134 : decode cX1_become 134 = .ok (.iconst 0, 1) := dk_3 (dk_at dksX1_become_5 18 rfl rfl)
theorem dX1_become_135 : decode cX1_become 135 = .ok (.aload_n 0, 1) := dk_42 (dk_at dksX1_become_5 19 rfl rfl)
theorem dX1_become_136 : decode cX1_become 136 = .ok (.getfield 35, 3) := dk_180 0 35 (dk_at dksX1_become_5 20 rfl rfl)
theorem dX1_become_139 : decode cX1_become 139 = .ok (.iconst 0, 1) := dk_3 (dk_at dksX1_become_5 23 rfl rfl)
theorem dX1_become_140 : decode cX1_become 140 = .ok (.bipush 64, 2) := dk_16 64 (dk_at dksX1_become_6 0 rfl rfl)
theorem dX1_become_142 : decode cX1_become 142 = .ok (.invokestatic 59, 3) := dk_184 0 59 (dk_at dksX1_become_6 2 rfl rfl)
theorem dX1_become_145 : decode cX1_become 145 = .ok (.aload_n 1, 1) := dk_43 (dk_at dksX1_become_6 5 rfl rfl)
theorem dX1_become_146 : decode cX1_become 146 = .ok (.getfield 38, 3) := dk_180 0 38 (dk_at dksX1_become_6 6 rfl rfl)
theorem dX1_become_149 : decode cX1_become 149 = .ok (.iconst 0, 1) := dk_3 (dk_at dksX1_become_6 9 rfl rfl)
theorem dX1_become_150 : decode cX1_become 150 = .ok (.aload_n 0, 1) := dk_42 (dk_at dksX1_become_6 10 rfl rfl)
theorem dX1_become_151 : decode cX1_become 151 = .ok (.getfield 38, 3) := dk_180 0 38 (dk_at dksX1_become_6 11 rfl rfl)
theorem dX1_become_154 : decode cX1_become 154 = .ok (.iconst 0, 1) := dk_3 (dk_at dksX1_become_6 14 rfl rfl)
theorem dX1_become_155 : decode cX1_become 155 = .ok (.bipush 6, 2) := dk_16 6 (dk_at dksX1_become_6 15 rfl rfl)
theorem dX1_become_157 : decode cX1_become 157 = .ok (.invokestatic 59, 3) := dk_184 0 59 (dk_at dksX1_become_6 17 rfl rfl)
theorem dX1_become_160 : decode cX1_become 160 = .ok (.aload_n 1, 1) := dk_43 (dk_at dksX1_become_6 20 rfl rfl)
theorem dX1_become_161 : decode cX1_become 161 = .ok (.getfield 41, 3) := dk_180 0 41 (dk_at dksX1_become_6 21 rfl rfl)
theorem dX1_become_164 : decode cX1_become 164 = .ok (.iconst 0, 1) := dk_3 (dk_at dksX1_become_7 0 rfl rfl)
theorem dX1_become_165 : decode cX1_become 165 = .ok (.aload_n 0, 1) := dk_42 (dk_at dksX1_become_7 1 rfl rfl)
theorem dX1_become_166 : decode cX1_become 166 = .ok (.getfield 41, 3) := dk_180 0 41 (dk_at dksX1_become_7 2 rfl rfl)
theorem dX1_become_169 : decode cX1_become 169 = .ok (.iconst 0, 1) := dk_3 (dk_at dksX1_become_7 5 rfl rfl)
theorem dX1_become_170 : decode cX1_become 170 = .ok (.bipush 6, 2) := dk_16 6 (dk_at dksX1_become_7 6 rfl rfl)
theorem dX1_become_172 : decode cX1_become 172 = .ok (.invokestatic 59, 3) := dk_184 0 59 (dk_at dksX1_become_7 8 rfl rfl)
theorem dX1_become_175 : decode cX1_become 175 = .ok (.aload_n 1, 1) := dk_43 (dk_at dksX1_become_7 11 rfl rfl)
theorem dX1_become_176 : decode cX1_become 176 = .ok (.getfield 44, 3) := dk_180 0 44 (dk_at dksX1_become_7 12 rfl rfl)
theorem dX1_become_179 : decode cX1_become 179 = .ok (.iconst 0, 1) := dk_3 (dk_at dksX1_become_7 15 rfl rfl)
theorem dX1_become_180 : decode cX1_become 180 = .ok (.aload_n 0, 1) := dk_42 (dk_at dksX1_become_7 16 rfl rfl)
theorem dX1_become_181 : decode cX1_become 181 = .ok (.getfield 44, 3) := dk_180 0 44 (dk_at dksX1_become_7 17 rfl rfl)
theorem dX1_become_184 : decode cX1_become 184 = .ok (.iconst 0, 1) := dk_3 (dk_at dksX1_become_7 20 rfl rfl)
theorem dX1_become_185 : decode cX1_become 185 = .ok (.bipush 6, 2) := dk_16 6 (dk_at dksX1_become_7 21 rfl rfl)
theorem dX1_become_187 : decode cX1_become 187 = .ok (.invokestatic 59, 3) := dk_184 0 59 (dk_at dksX1_become_8 0 rfl rfl)
theorem dX1_become_190 : decode cX1_become 190 = .ok (.return_, 1) := dk_177 (dk_at dksX1_become_8 3 rfl rfl)
abbrev cX1_setOf : ByteArray := prog_3_method_9_code
def yX1_setOf : MethodName := ⟨RX1, "setOf", "([Z)I"⟩
def dkwX1_setOf_1 : List UInt8 := [167, 0, 4, 3, 128, 61, 132, 3, 1, 167, 255, 229, 28, 172]
abbrev dktX1_setOf_1 : List UInt8 := dkwX1_setOf_1 ++ []
def dkwX1_setOf_0 : List UInt8 := [3, 61, 3, 62, 29, 42, 180, 0, 47, 162, 0, 25, 28, 43, 29, 51, 153, 0, 9, 4, 29, 120]
abbrev dktX1_setOf_0 : List UInt8 := dkwX1_setOf_0 ++ dktX1_setOf_1
theorem dksX1_setOf_0 : cX1_setOf.data.toList.drop 0 = dktX1_setOf_0 := by decide +kernel
theorem dksX1_setOf_1 : cX1_setOf.data.toList.drop 22 = dktX1_setOf_1 := dk_seg dksX1_setOf_0 22 rfl rfl
theorem dX1_setOf_0 : decode cX1_setOf 0 = .ok (.iconst 0, 1) := dk_3 (dk_at dksX1_setOf_0 0 rfl rfl)
theorem dX1_setOf_1 : decode cX1_setOf 1 = .ok (.istore_n 2, 1) := dk_61 (dk_at dksX1_setOf_0 1 rfl rfl)
theorem dX1_setOf_2 : decode cX1_setOf 2 = .ok (.iconst 0, 1) := dk_3 (dk_at dksX1_setOf_0 2 rfl rfl)
theorem dX1_setOf_3 : decode cX1_setOf 3 = .ok (.istore_n 3, 1) := dk_62 (dk_at dksX1_setOf_0 3 rfl rfl)
theorem dX1_setOf_4 : decode cX1_setOf 4 = .ok (.iload_n 3, 1) := dk_29 (dk_at dksX1_setOf_0 4 rfl rfl)
theorem dX1_setOf_5 : decode cX1_setOf 5 = .ok (.aload_n 0, 1) := dk_42 (dk_at dksX1_setOf_0 5 rfl rfl)
theorem dX1_setOf_6 : decode cX1_setOf 6 = .ok (.getfield 47, 3) := dk_180 0 47 (dk_at dksX1_setOf_0 6 rfl rfl)
theorem dX1_setOf_9 : decode cX1_setOf 9 = .ok (.if_icmp .ge 25, 3) := dk_162 0 25 (dk_at dksX1_setOf_0 9 rfl rfl)
theorem dX1_setOf_12 : decode cX1_setOf 12 = .ok (.iload_n 2, 1) := dk_28 (dk_at dksX1_setOf_0 12 rfl rfl)
theorem dX1_setOf_13 : decode cX1_setOf 13 = .ok (.aload_n 1, 1) := dk_43 (dk_at dksX1_setOf_0 13 rfl rfl)
theorem dX1_setOf_14 : decode cX1_setOf 14 = .ok (.iload_n 3, 1) := dk_29 (dk_at dksX1_setOf_0 14 rfl rfl)
theorem dX1_setOf_15 : decode cX1_setOf 15 = .ok (.baload, 1) := dk_51 (dk_at dksX1_setOf_0 15 rfl rfl)
theorem dX1_setOf_16 : decode cX1_setOf 16 = .ok (.ifCond .eq 9, 3) := dk_153 0 9 (dk_at dksX1_setOf_0 16 rfl rfl)
theorem dX1_setOf_19 : decode cX1_setOf 19 = .ok (.iconst 1, 1) := dk_4 (dk_at dksX1_setOf_0 19 rfl rfl)
theorem dX1_setOf_20 : decode cX1_setOf 20 = .ok (.iload_n 3, 1) := dk_29 (dk_at dksX1_setOf_0 20 rfl rfl)
theorem dX1_setOf_21 : decode cX1_setOf 21 = .ok (.ishl, 1) := dk_120 (dk_at dksX1_setOf_0 21 rfl rfl)
theorem dX1_setOf_22 : decode cX1_setOf 22 = .ok (.goto 4, 3) := dk_167 0 4 (dk_at dksX1_setOf_1 0 rfl rfl)
theorem dX1_setOf_25 : decode cX1_setOf 25 = .ok (.iconst 0, 1) := dk_3 (dk_at dksX1_setOf_1 3 rfl rfl)
theorem dX1_setOf_26 : decode cX1_setOf 26 = .ok (.ior, 1) := dk_128 (dk_at dksX1_setOf_1 4 rfl rfl)
theorem dX1_setOf_27 : decode cX1_setOf 27 = .ok (.istore_n 2, 1) := dk_61 (dk_at dksX1_setOf_1 5 rfl rfl)
theorem dX1_setOf_28 : decode cX1_setOf 28 = .ok (.iinc 3 1, 3) := dk_132 3 1 (dk_at dksX1_setOf_1 6 rfl rfl)
theorem dX1_setOf_31 : decode cX1_setOf 31 = .ok (.goto (-27), 3) := dk_167 255 229 (dk_at dksX1_setOf_1 9 rfl rfl)
theorem dX1_setOf_34 : decode cX1_setOf 34 = .ok (.iload_n 2, 1) := dk_28 (dk_at dksX1_setOf_1 12 rfl rfl)
theorem dX1_setOf_35 : decode cX1_setOf 35 = .ok (.ireturn, 1) := dk_172 (dk_at dksX1_setOf_1 13 rfl rfl)
abbrev cX1_trueOnes : ByteArray := prog_3_method_10_code
def yX1_trueOnes : MethodName := ⟨RX1, "trueOnes", "()I"⟩
def dkwX1_trueOnes_1 : List UInt8 := [182, 0, 86, 2, 130, 126, 172]
abbrev dktX1_trueOnes_1 : List UInt8 := dkwX1_trueOnes_1 ++ []
def dkwX1_trueOnes_0 : List UInt8 := [4, 42, 180, 0, 47, 120, 4, 100, 42, 42, 180, 0, 25, 182, 0, 86, 2, 130, 126, 42, 42, 180, 0, 29]
abbrev dktX1_trueOnes_0 : List UInt8 := dkwX1_trueOnes_0 ++ dktX1_trueOnes_1
theorem dksX1_trueOnes_0 : cX1_trueOnes.data.toList.drop 0 = dktX1_trueOnes_0 := by decide +kernel
theorem dksX1_trueOnes_1 : cX1_trueOnes.data.toList.drop 24 = dktX1_trueOnes_1 := dk_seg dksX1_trueOnes_0 24 rfl rfl
theorem dX1_trueOnes_0 : decode cX1_trueOnes 0 = .ok (.iconst 1, 1) := dk_4 (dk_at dksX1_trueOnes_0 0 rfl rfl)
theorem dX1_trueOnes_1 : decode cX1_trueOnes 1 = .ok (.aload_n 0, 1) := dk_42 (dk_at dksX1_trueOnes_0 1 rfl rfl)
theorem dX1_trueOnes_2 : decode cX1_trueOnes 2 = .ok (.getfield 47, 3) := dk_180 0 47 (dk_at dksX1_trueOnes_0 2 rfl rfl)
theorem dX1_trueOnes_5 : decode cX1_trueOnes 5 = .ok (.ishl, 1) := dk_120 (dk_at dksX1_trueOnes_0 5 rfl rfl)
theorem dX1_trueOnes_6 : decode cX1_trueOnes 6 = .ok (.iconst 1, 1) := dk_4 (dk_at dksX1_trueOnes_0 6 rfl rfl)
theorem dX1_trueOnes_7 : decode cX1_trueOnes 7 = .ok (.isub, 1) := dk_100 (dk_at dksX1_trueOnes_0 7 rfl rfl)
theorem dX1_trueOnes_8 : decode cX1_trueOnes 8 = .ok (.aload_n 0, 1) := dk_42 (dk_at dksX1_trueOnes_0 8 rfl rfl)
theorem dX1_trueOnes_9 : decode cX1_trueOnes 9 = .ok (.aload_n 0, 1) := dk_42 (dk_at dksX1_trueOnes_0 9 rfl rfl)
theorem dX1_trueOnes_10 : decode cX1_trueOnes 10 = .ok (.getfield 25, 3) := dk_180 0 25 (dk_at dksX1_trueOnes_0 10 rfl rfl)
theorem dX1_trueOnes_13 : decode cX1_trueOnes 13 = .ok (.invokevirtual 86, 3) := dk_182 0 86 (dk_at dksX1_trueOnes_0 13 rfl rfl)
theorem dX1_trueOnes_16 : decode cX1_trueOnes 16 = .ok (.iconst (-1), 1) := dk_2 (dk_at dksX1_trueOnes_0 16 rfl rfl)
theorem dX1_trueOnes_17 : decode cX1_trueOnes 17 = .ok (.ixor, 1) := dk_130 (dk_at dksX1_trueOnes_0 17 rfl rfl)
theorem dX1_trueOnes_18 : decode cX1_trueOnes 18 = .ok (.iand, 1) := dk_126 (dk_at dksX1_trueOnes_0 18 rfl rfl)
theorem dX1_trueOnes_19 : decode cX1_trueOnes 19 = .ok (.aload_n 0, 1) := dk_42 (dk_at dksX1_trueOnes_0 19 rfl rfl)
theorem dX1_trueOnes_20 : decode cX1_trueOnes 20 = .ok (.aload_n 0, 1) := dk_42 (dk_at dksX1_trueOnes_0 20 rfl rfl)
theorem dX1_trueOnes_21 : decode cX1_trueOnes 21 = .ok (.getfield 29, 3) := dk_180 0 29 (dk_at dksX1_trueOnes_0 21 rfl rfl)
theorem dX1_trueOnes_24 : decode cX1_trueOnes 24 = .ok (.invokevirtual 86, 3) := dk_182 0 86 (dk_at dksX1_trueOnes_1 0 rfl rfl)
theorem dX1_trueOnes_27 : decode cX1_trueOnes 27 = .ok (.iconst (-1), 1) := dk_2 (dk_at dksX1_trueOnes_1 3 rfl rfl)
theorem dX1_trueOnes_28 : decode cX1_trueOnes 28 = .ok (.ixor, 1) := dk_130 (dk_at dksX1_trueOnes_1 4 rfl rfl)
theorem dX1_trueOnes_29 : decode cX1_trueOnes 29 = .ok (.iand, 1) := dk_126 (dk_at dksX1_trueOnes_1 5 rfl rfl)
theorem dX1_trueOnes_30 : decode cX1_trueOnes 30 = .ok (.ireturn, 1) := dk_172 (dk_at dksX1_trueOnes_1 6 rfl rfl)
abbrev cX1_apart : ByteArray := prog_3_method_11_code
def yX1_apart : MethodName := ⟨RX1, "apart", "()I"⟩
def dkwX1_apart_3 : List UInt8 := [167, 0, 6, 28, 27, 100, 172]
abbrev dktX1_apart_3 : List UInt8 := dkwX1_apart_3 ++ []
def dkwX1_apart_2 : List UInt8 := [29, 182, 0, 65, 184, 0, 75, 167, 0, 4, 28, 61, 132, 3, 1, 167, 255, 201, 27, 28, 164, 0, 7, 2]
abbrev dktX1_apart_2 : List UInt8 := dkwX1_apart_2 ++ dktX1_apart_3
def dkwX1_apart_1 : List UInt8 := [27, 42, 29, 182, 0, 65, 184, 0, 69, 167, 0, 4, 27, 60, 42, 29, 182, 0, 92, 153, 0, 15, 28, 42]
abbrev dktX1_apart_1 : List UInt8 := dkwX1_apart_1 ++ dktX1_apart_2
def dkwX1_apart_0 : List UInt8 := [18, 90, 60, 18, 91, 61, 3, 62, 29, 42, 180, 0, 47, 162, 0, 53, 42, 29, 182, 0, 92, 153, 0, 15]
abbrev dktX1_apart_0 : List UInt8 := dkwX1_apart_0 ++ dktX1_apart_1
theorem dksX1_apart_0 : cX1_apart.data.toList.drop 0 = dktX1_apart_0 := by decide +kernel
theorem dksX1_apart_1 : cX1_apart.data.toList.drop 24 = dktX1_apart_1 := dk_seg dksX1_apart_0 24 rfl rfl
theorem dksX1_apart_2 : cX1_apart.data.toList.drop 48 = dktX1_apart_2 := dk_seg dksX1_apart_1 24 rfl rfl
theorem dksX1_apart_3 : cX1_apart.data.toList.drop 72 = dktX1_apart_3 := dk_seg dksX1_apart_2 24 rfl rfl
theorem dX1_apart_0 : decode cX1_apart 0 = .ok (.ldc 90, 2) := dk_18 90 (dk_at dksX1_apart_0 0 rfl rfl)
theorem dX1_apart_2 : decode cX1_apart 2 = .ok (.istore_n 1, 1) := dk_60 (dk_at dksX1_apart_0 2 rfl rfl)
theorem dX1_apart_3 : decode cX1_apart 3 = .ok (.ldc 91, 2) := dk_18 91 (dk_at dksX1_apart_0 3 rfl rfl)
theorem dX1_apart_5 : decode cX1_apart 5 = .ok (.istore_n 2, 1) := dk_61 (dk_at dksX1_apart_0 5 rfl rfl)
theorem dX1_apart_6 : decode cX1_apart 6 = .ok (.iconst 0, 1) := dk_3 (dk_at dksX1_apart_0 6 rfl rfl)
theorem dX1_apart_7 : decode cX1_apart 7 = .ok (.istore_n 3, 1) := dk_62 (dk_at dksX1_apart_0 7 rfl rfl)
theorem dX1_apart_8 : decode cX1_apart 8 = .ok (.iload_n 3, 1) := dk_29 (dk_at dksX1_apart_0 8 rfl rfl)
theorem dX1_apart_9 : decode cX1_apart 9 = .ok (.aload_n 0, 1) := dk_42 (dk_at dksX1_apart_0 9 rfl rfl)
theorem dX1_apart_10 : decode cX1_apart 10 = .ok (.getfield 47, 3) := dk_180 0 47 (dk_at dksX1_apart_0 10 rfl rfl)
theorem dX1_apart_13 : decode cX1_apart 13 = .ok (.if_icmp .ge 53, 3) := dk_162 0 53 (dk_at dksX1_apart_0 13 rfl rfl)
theorem dX1_apart_16 : decode cX1_apart 16 = .ok (.aload_n 0, 1) := dk_42 (dk_at dksX1_apart_0 16 rfl rfl)
theorem dX1_apart_17 : decode cX1_apart 17 = .ok (.iload_n 3, 1) := dk_29 (dk_at dksX1_apart_0 17 rfl rfl)
theorem dX1_apart_18 : decode cX1_apart 18 = .ok (.invokevirtual 92, 3) := dk_182 0 92 (dk_at dksX1_apart_0 18 rfl rfl)
theorem dX1_apart_21 : decode cX1_apart 21 = .ok (.ifCond .eq 15, 3) := dk_153 0 15 (dk_at dksX1_apart_0 21 rfl rfl)
theorem dX1_apart_24 : decode cX1_apart 24 = .ok (.iload_n 1, 1) := dk_27 (dk_at dksX1_apart_1 0 rfl rfl)
theorem dX1_apart_25 : decode cX1_apart 25 = .ok (.aload_n 0, 1) := dk_42 (dk_at dksX1_apart_1 1 rfl rfl)
theorem dX1_apart_26 : decode cX1_apart 26 = .ok (.iload_n 3, 1) := dk_29 (dk_at dksX1_apart_1 2 rfl rfl)
theorem dX1_apart_27 : decode cX1_apart 27 = .ok (.invokevirtual 65, 3) := dk_182 0 65 (dk_at dksX1_apart_1 3 rfl rfl)
theorem dX1_apart_30 : decode cX1_apart 30 = .ok (.invokestatic 69, 3) := dk_184 0 69 (dk_at dksX1_apart_1 6 rfl rfl)
theorem dX1_apart_33 : decode cX1_apart 33 = .ok (.goto 4, 3) := dk_167 0 4 (dk_at dksX1_apart_1 9 rfl rfl)
theorem dX1_apart_36 : decode cX1_apart 36 = .ok (.iload_n 1, 1) := dk_27 (dk_at dksX1_apart_1 12 rfl rfl)
theorem dX1_apart_37 : decode cX1_apart 37 = .ok (.istore_n 1, 1) := dk_60 (dk_at dksX1_apart_1 13 rfl rfl)
theorem dX1_apart_38 : decode cX1_apart 38 = .ok (.aload_n 0, 1) := dk_42 (dk_at dksX1_apart_1 14 rfl rfl)
theorem dX1_apart_39 : decode cX1_apart 39 = .ok (.iload_n 3, 1) := dk_29 (dk_at dksX1_apart_1 15 rfl rfl)
theorem dX1_apart_40 : decode cX1_apart 40 = .ok (.invokevirtual 92, 3) := dk_182 0 92 (dk_at dksX1_apart_1 16 rfl rfl)
theorem dX1_apart_43 : decode cX1_apart 43 = .ok (.ifCond .eq 15, 3) := dk_153 0 15 (dk_at dksX1_apart_1 19 rfl rfl)
theorem dX1_apart_46 : decode cX1_apart 46 = .ok (.iload_n 2, 1) := dk_28 (dk_at dksX1_apart_1 22 rfl rfl)
theorem dX1_apart_47 : decode cX1_apart 47 = .ok (.aload_n 0, 1) := dk_42 (dk_at dksX1_apart_1 23 rfl rfl)
theorem dX1_apart_48 : decode cX1_apart 48 = .ok (.iload_n 3, 1) := dk_29 (dk_at dksX1_apart_2 0 rfl rfl)
theorem dX1_apart_49 : decode cX1_apart 49 = .ok (.invokevirtual 65, 3) := dk_182 0 65 (dk_at dksX1_apart_2 1 rfl rfl)
theorem dX1_apart_52 : decode cX1_apart 52 = .ok (.invokestatic 75, 3) := dk_184 0 75 (dk_at dksX1_apart_2 4 rfl rfl)
theorem dX1_apart_55 : decode cX1_apart 55 = .ok (.goto 4, 3) := dk_167 0 4 (dk_at dksX1_apart_2 7 rfl rfl)
theorem dX1_apart_58 : decode cX1_apart 58 = .ok (.iload_n 2, 1) := dk_28 (dk_at dksX1_apart_2 10 rfl rfl)
theorem dX1_apart_59 : decode cX1_apart 59 = .ok (.istore_n 2, 1) := dk_61 (dk_at dksX1_apart_2 11 rfl rfl)
theorem dX1_apart_60 : decode cX1_apart 60 = .ok (.iinc 3 1, 3) := dk_132 3 1 (dk_at dksX1_apart_2 12 rfl rfl)
theorem dX1_apart_63 : decode cX1_apart 63 = .ok (.goto (-55), 3) := dk_167 255 201 (dk_at dksX1_apart_2 15 rfl rfl)
theorem dX1_apart_66 : decode cX1_apart 66 = .ok (.iload_n 1, 1) := dk_27 (dk_at dksX1_apart_2 18 rfl rfl)
theorem dX1_apart_67 : decode cX1_apart 67 = .ok (.iload_n 2, 1) := dk_28 (dk_at dksX1_apart_2 19 rfl rfl)
theorem dX1_apart_68 : decode cX1_apart 68 = .ok (.if_icmp .le 7, 3) := dk_164 0 7 (dk_at dksX1_apart_2 20 rfl rfl)
theorem dX1_apart_71 : decode cX1_apart 71 = .ok (.iconst (-1), 1) := dk_2 (dk_at dksX1_apart_2 23 rfl rfl)
theorem dX1_apart_72 : decode cX1_apart 72 = .ok (.goto 6, 3) := dk_167 0 6 (dk_at dksX1_apart_3 0 rfl rfl)
theorem dX1_apart_75 : decode cX1_apart 75 = .ok (.iload_n 2, 1) := dk_28 (dk_at dksX1_apart_3 3 rfl rfl)
theorem dX1_apart_76 : decode cX1_apart 76 = .ok (.iload_n 1, 1) := dk_27 (dk_at dksX1_apart_3 4 rfl rfl)
theorem dX1_apart_77 : decode cX1_apart 77 = .ok (.isub, 1) := dk_100 (dk_at dksX1_apart_3 5 rfl rfl)
theorem dX1_apart_78 : decode cX1_apart 78 = .ok (.ireturn, 1) := dk_172 (dk_at dksX1_apart_3 6 rfl rfl)
abbrev cX1_isTrue : ByteArray := prog_3_method_4_code
def yX1_isTrue : MethodName := ⟨RX1, "isTrue", "(I)Z"⟩
def dkwX1_isTrue_0 : List UInt8 := [42, 180, 0, 25, 27, 51, 154, 0, 16, 42, 180, 0, 29, 27, 51, 154, 0, 7, 4, 167, 0, 4, 3, 172]
abbrev dktX1_isTrue_0 : List UInt8 := dkwX1_isTrue_0 ++ []
theorem dksX1_isTrue_0 : cX1_isTrue.data.toList.drop 0 = dktX1_isTrue_0 := by decide +kernel
theorem dX1_isTrue_0 : decode cX1_isTrue 0 = .ok (.aload_n 0, 1) := dk_42 (dk_at dksX1_isTrue_0 0 rfl rfl)
theorem dX1_isTrue_1 : decode cX1_isTrue 1 = .ok (.getfield 25, 3) := dk_180 0 25 (dk_at dksX1_isTrue_0 1 rfl rfl)
theorem dX1_isTrue_4 : decode cX1_isTrue 4 = .ok (.iload_n 1, 1) := dk_27 (dk_at dksX1_isTrue_0 4 rfl rfl)
theorem dX1_isTrue_5 : decode cX1_isTrue 5 = .ok (.baload, 1) := dk_51 (dk_at dksX1_isTrue_0 5 rfl rfl)
theorem dX1_isTrue_6 : decode cX1_isTrue 6 = .ok (.ifCond .ne 16, 3) := dk_154 0 16 (dk_at dksX1_isTrue_0 6 rfl rfl)
theorem dX1_isTrue_9 : decode cX1_isTrue 9 = .ok (.aload_n 0, 1) := dk_42 (dk_at dksX1_isTrue_0 9 rfl rfl)
theorem dX1_isTrue_10 : decode cX1_isTrue 10 = .ok (.getfield 29, 3) := dk_180 0 29 (dk_at dksX1_isTrue_0 10 rfl rfl)
theorem dX1_isTrue_13 : decode cX1_isTrue 13 = .ok (.iload_n 1, 1) := dk_27 (dk_at dksX1_isTrue_0 13 rfl rfl)
theorem dX1_isTrue_14 : decode cX1_isTrue 14 = .ok (.baload, 1) := dk_51 (dk_at dksX1_isTrue_0 14 rfl rfl)
theorem dX1_isTrue_15 : decode cX1_isTrue 15 = .ok (.ifCond .ne 7, 3) := dk_154 0 7 (dk_at dksX1_isTrue_0 15 rfl rfl)
theorem dX1_isTrue_18 : decode cX1_isTrue 18 = .ok (.iconst 1, 1) := dk_4 (dk_at dksX1_isTrue_0 18 rfl rfl)
theorem dX1_isTrue_19 : decode cX1_isTrue 19 = .ok (.goto 4, 3) := dk_167 0 4 (dk_at dksX1_isTrue_0 19 rfl rfl)
theorem dX1_isTrue_22 : decode cX1_isTrue 22 = .ok (.iconst 0, 1) := dk_3 (dk_at dksX1_isTrue_0 22 rfl rfl)
theorem dX1_isTrue_23 : decode cX1_isTrue 23 = .ok (.ireturn, 1) := dk_172 (dk_at dksX1_isTrue_0 23 rfl rfl)
abbrev cX1_aim : ByteArray := prog_3_method_3_code
def yX1_aim : MethodName := ⟨RX1, "aim", "(I)I"⟩
def dkwX1_aim_0 : List UInt8 := [42, 180, 0, 15, 27, 46, 42, 180, 0, 22, 27, 46, 96, 172]
abbrev dktX1_aim_0 : List UInt8 := dkwX1_aim_0 ++ []
theorem dksX1_aim_0 : cX1_aim.data.toList.drop 0 = dktX1_aim_0 := by decide +kernel
theorem dX1_aim_0 : decode cX1_aim 0 = .ok (.aload_n 0, 1) := dk_42 (dk_at dksX1_aim_0 0 rfl rfl)
theorem dX1_aim_1 : decode cX1_aim 1 = .ok (.getfield 15, 3) := dk_180 0 15 (dk_at dksX1_aim_0 1 rfl rfl)
theorem dX1_aim_4 : decode cX1_aim 4 = .ok (.iload_n 1, 1) := dk_27 (dk_at dksX1_aim_0 4 rfl rfl)
theorem dX1_aim_5 : decode cX1_aim 5 = .ok (.iaload, 1) := dk_46 (dk_at dksX1_aim_0 5 rfl rfl)
theorem dX1_aim_6 : decode cX1_aim 6 = .ok (.aload_n 0, 1) := dk_42 (dk_at dksX1_aim_0 6 rfl rfl)
theorem dX1_aim_7 : decode cX1_aim 7 = .ok (.getfield 22, 3) := dk_180 0 22 (dk_at dksX1_aim_0 7 rfl rfl)
theorem dX1_aim_10 : decode cX1_aim 10 = .ok (.iload_n 1, 1) := dk_27 (dk_at dksX1_aim_0 10 rfl rfl)
theorem dX1_aim_11 : decode cX1_aim 11 = .ok (.iaload, 1) := dk_46 (dk_at dksX1_aim_0 11 rfl rfl)
theorem dX1_aim_12 : decode cX1_aim 12 = .ok (.iadd, 1) := dk_96 (dk_at dksX1_aim_0 12 rfl rfl)
theorem dX1_aim_13 : decode cX1_aim 13 = .ok (.ireturn, 1) := dk_172 (dk_at dksX1_aim_0 13 rfl rfl)
abbrev cX1_heardBy : ByteArray := prog_3_method_5_code
def yX1_heardBy : MethodName := ⟨RX1, "heardBy", "(II)I"⟩
def dkwX1_heardBy_2 : List UInt8 := [167, 0, 20, 42, 28, 182, 0, 65, 42, 180, 0, 35, 16, 8, 28, 104, 27, 96, 46, 96, 172]
abbrev dktX1_heardBy_2 : List UInt8 := dkwX1_heardBy_2 ++ []
def dkwX1_heardBy_1 : List UInt8 := [28, 51, 153, 0, 23, 42, 27, 182, 0, 65, 42, 180, 0, 32, 16, 8, 28, 104, 27, 96, 46, 96]
abbrev dktX1_heardBy_1 : List UInt8 := dkwX1_heardBy_1 ++ dktX1_heardBy_2
def dkwX1_heardBy_0 : List UInt8 := [28, 27, 159, 0, 12, 42, 180, 0, 29, 28, 51, 153, 0, 9, 42, 27, 182, 0, 65, 172, 42, 180, 0, 25]
abbrev dktX1_heardBy_0 : List UInt8 := dkwX1_heardBy_0 ++ dktX1_heardBy_1
theorem dksX1_heardBy_0 : cX1_heardBy.data.toList.drop 0 = dktX1_heardBy_0 := by decide +kernel
theorem dksX1_heardBy_1 : cX1_heardBy.data.toList.drop 24 = dktX1_heardBy_1 := dk_seg dksX1_heardBy_0 24 rfl rfl
theorem dksX1_heardBy_2 : cX1_heardBy.data.toList.drop 46 = dktX1_heardBy_2 := dk_seg dksX1_heardBy_1 22 rfl rfl
theorem dX1_heardBy_0 : decode cX1_heardBy 0 = .ok (.iload_n 2, 1) := dk_28 (dk_at dksX1_heardBy_0 0 rfl rfl)
theorem dX1_heardBy_1 : decode cX1_heardBy 1 = .ok (.iload_n 1, 1) := dk_27 (dk_at dksX1_heardBy_0 1 rfl rfl)
theorem dX1_heardBy_2 : decode cX1_heardBy 2 = .ok (.if_icmp .eq 12, 3) := dk_159 0 12 (dk_at dksX1_heardBy_0 2 rfl rfl)
theorem dX1_heardBy_5 : decode cX1_heardBy 5 = .ok (.aload_n 0, 1) := dk_42 (dk_at dksX1_heardBy_0 5 rfl rfl)
theorem dX1_heardBy_6 : decode cX1_heardBy 6 = .ok (.getfield 29, 3) := dk_180 0 29 (dk_at dksX1_heardBy_0 6 rfl rfl)
theorem dX1_heardBy_9 : decode cX1_heardBy 9 = .ok (.iload_n 2, 1) := dk_28 (dk_at dksX1_heardBy_0 9 rfl rfl)
theorem dX1_heardBy_10 : decode cX1_heardBy 10 = .ok (.baload, 1) := dk_51 (dk_at dksX1_heardBy_0 10 rfl rfl)
theorem dX1_heardBy_11 : decode cX1_heardBy 11 = .ok (.ifCond .eq 9, 3) := dk_153 0 9 (dk_at dksX1_heardBy_0 11 rfl rfl)
theorem dX1_heardBy_14 : decode cX1_heardBy 14 = .ok (.aload_n 0, 1) := dk_42 (dk_at dksX1_heardBy_0 14 rfl rfl)
theorem dX1_heardBy_15 : decode cX1_heardBy 15 = .ok (.iload_n 1, 1) := dk_27 (dk_at dksX1_heardBy_0 15 rfl rfl)
theorem dX1_heardBy_16 : decode cX1_heardBy 16 = .ok (.invokevirtual 65, 3) := dk_182 0 65 (dk_at dksX1_heardBy_0 16 rfl rfl)
theorem dX1_heardBy_19 : decode cX1_heardBy 19 = .ok (.ireturn, 1) := dk_172 (dk_at dksX1_heardBy_0 19 rfl rfl)
theorem dX1_heardBy_20 : decode cX1_heardBy 20 = .ok (.aload_n 0, 1) := dk_42 (dk_at dksX1_heardBy_0 20 rfl rfl)
theorem dX1_heardBy_21 : decode cX1_heardBy 21 = .ok (.getfield 25, 3) := dk_180 0 25 (dk_at dksX1_heardBy_0 21 rfl rfl)
theorem dX1_heardBy_24 : decode cX1_heardBy 24 = .ok (.iload_n 2, 1) := dk_28 (dk_at dksX1_heardBy_1 0 rfl rfl)
theorem dX1_heardBy_25 : decode cX1_heardBy 25 = .ok (.baload, 1) := dk_51 (dk_at dksX1_heardBy_1 1 rfl rfl)
theorem dX1_heardBy_26 : decode cX1_heardBy 26 = .ok (.ifCond .eq 23, 3) := dk_153 0 23 (dk_at dksX1_heardBy_1 2 rfl rfl)
theorem dX1_heardBy_29 : decode cX1_heardBy 29 = .ok (.aload_n 0, 1) := dk_42 (dk_at dksX1_heardBy_1 5 rfl rfl)
theorem dX1_heardBy_30 : decode cX1_heardBy 30 = .ok (.iload_n 1, 1) := dk_27 (dk_at dksX1_heardBy_1 6 rfl rfl)
theorem dX1_heardBy_31 : decode cX1_heardBy 31 = .ok (.invokevirtual 65, 3) := dk_182 0 65 (dk_at dksX1_heardBy_1 7 rfl rfl)
theorem dX1_heardBy_34 : decode cX1_heardBy 34 = .ok (.aload_n 0, 1) := dk_42 (dk_at dksX1_heardBy_1 10 rfl rfl)
theorem dX1_heardBy_35 : decode cX1_heardBy 35 = .ok (.getfield 32, 3) := dk_180 0 32 (dk_at dksX1_heardBy_1 11 rfl rfl)
theorem dX1_heardBy_38 : decode cX1_heardBy 38 = .ok (.bipush 8, 2) := dk_16 8 (dk_at dksX1_heardBy_1 14 rfl rfl)
theorem dX1_heardBy_40 : decode cX1_heardBy 40 = .ok (.iload_n 2, 1) := dk_28 (dk_at dksX1_heardBy_1 16 rfl rfl)
theorem dX1_heardBy_41 : decode cX1_heardBy 41 = .ok (.imul, 1) := dk_104 (dk_at dksX1_heardBy_1 17 rfl rfl)
theorem dX1_heardBy_42 : decode cX1_heardBy 42 = .ok (.iload_n 1, 1) := dk_27 (dk_at dksX1_heardBy_1 18 rfl rfl)
theorem dX1_heardBy_43 : decode cX1_heardBy 43 = .ok (.iadd, 1) := dk_96 (dk_at dksX1_heardBy_1 19 rfl rfl)
theorem dX1_heardBy_44 : decode cX1_heardBy 44 = .ok (.iaload, 1) := dk_46 (dk_at dksX1_heardBy_1 20 rfl rfl)
theorem dX1_heardBy_45 : decode cX1_heardBy 45 = .ok (.iadd, 1) := dk_96 (dk_at dksX1_heardBy_1 21 rfl rfl)
theorem dX1_heardBy_46 : decode cX1_heardBy 46 = .ok (.goto 20, 3) := dk_167 0 20 (dk_at dksX1_heardBy_2 0 rfl rfl)
theorem dX1_heardBy_49 : decode cX1_heardBy 49 = .ok (.aload_n 0, 1) := dk_42 (dk_at dksX1_heardBy_2 3 rfl rfl)
theorem dX1_heardBy_50 : decode cX1_heardBy 50 = .ok (.iload_n 2, 1) := dk_28 (dk_at dksX1_heardBy_2 4 rfl rfl)
theorem dX1_heardBy_51 : decode cX1_heardBy 51 = .ok (.invokevirtual 65, 3) := dk_182 0 65 (dk_at dksX1_heardBy_2 5 rfl rfl)
theorem dX1_heardBy_54 : decode cX1_heardBy 54 = .ok (.aload_n 0, 1) := dk_42 (dk_at dksX1_heardBy_2 8 rfl rfl)
theorem dX1_heardBy_55 : decode cX1_heardBy 55 = .ok (.getfield 35, 3) := dk_180 0 35 (dk_at dksX1_heardBy_2 9 rfl rfl)
theorem dX1_heardBy_58 : decode cX1_heardBy 58 = .ok (.bipush 8, 2) := dk_16 8 (dk_at dksX1_heardBy_2 12 rfl rfl)
theorem dX1_heardBy_60 : decode cX1_heardBy 60 = .ok (.iload_n 2, 1) := dk_28 (dk_at dksX1_heardBy_2 14 rfl rfl)
theorem dX1_heardBy_61 : decode cX1_heardBy 61 = .ok (.imul, 1) := dk_104 (dk_at dksX1_heardBy_2 15 rfl rfl)
theorem dX1_heardBy_62 : decode cX1_heardBy 62 = .ok (.iload_n 1, 1) := dk_27 (dk_at dksX1_heardBy_2 16 rfl rfl)
theorem dX1_heardBy_63 : decode cX1_heardBy 63 = .ok (.iadd, 1) := dk_96 (dk_at dksX1_heardBy_2 17 rfl rfl)
theorem dX1_heardBy_64 : decode cX1_heardBy 64 = .ok (.iaload, 1) := dk_46 (dk_at dksX1_heardBy_2 18 rfl rfl)
theorem dX1_heardBy_65 : decode cX1_heardBy 65 = .ok (.iadd, 1) := dk_96 (dk_at dksX1_heardBy_2 19 rfl rfl)
theorem dX1_heardBy_66 : decode cX1_heardBy 66 = .ok (.ireturn, 1) := dk_172 (dk_at dksX1_heardBy_2 20 rfl rfl)
abbrev cX1_tickOnce : ByteArray := prog_3_method_8_code
def yX1_tickOnce : MethodName := ⟨RX1, "tickOnce", "()I"⟩
def dkwX1_tickOnce_1 : List UInt8 := [132, 1, 1, 167, 255, 231, 42, 89, 180, 0, 56, 4, 96, 181, 0, 56, 42, 182, 0, 82, 172]
abbrev dktX1_tickOnce_1 : List UInt8 := dkwX1_tickOnce_1 ++ []
def dkwX1_tickOnce_0 : List UInt8 := [3, 60, 27, 42, 180, 0, 47, 162, 0, 23, 42, 180, 0, 29, 27, 51, 154, 0, 8, 42, 27, 182, 0, 78]
abbrev dktX1_tickOnce_0 : List UInt8 := dkwX1_tickOnce_0 ++ dktX1_tickOnce_1
theorem dksX1_tickOnce_0 : cX1_tickOnce.data.toList.drop 0 = dktX1_tickOnce_0 := by decide +kernel
theorem dksX1_tickOnce_1 : cX1_tickOnce.data.toList.drop 24 = dktX1_tickOnce_1 := dk_seg dksX1_tickOnce_0 24 rfl rfl
theorem dX1_tickOnce_0 : decode cX1_tickOnce 0 = .ok (.iconst 0, 1) := dk_3 (dk_at dksX1_tickOnce_0 0 rfl rfl)
theorem dX1_tickOnce_1 : decode cX1_tickOnce 1 = .ok (.istore_n 1, 1) := dk_60 (dk_at dksX1_tickOnce_0 1 rfl rfl)
theorem dX1_tickOnce_2 : decode cX1_tickOnce 2 = .ok (.iload_n 1, 1) := dk_27 (dk_at dksX1_tickOnce_0 2 rfl rfl)
theorem dX1_tickOnce_3 : decode cX1_tickOnce 3 = .ok (.aload_n 0, 1) := dk_42 (dk_at dksX1_tickOnce_0 3 rfl rfl)
theorem dX1_tickOnce_4 : decode cX1_tickOnce 4 = .ok (.getfield 47, 3) := dk_180 0 47 (dk_at dksX1_tickOnce_0 4 rfl rfl)
theorem dX1_tickOnce_7 : decode cX1_tickOnce 7 = .ok (.if_icmp .ge 23, 3) := dk_162 0 23 (dk_at dksX1_tickOnce_0 7 rfl rfl)
theorem dX1_tickOnce_10 : decode cX1_tickOnce 10 = .ok (.aload_n 0, 1) := dk_42 (dk_at dksX1_tickOnce_0 10 rfl rfl)
theorem dX1_tickOnce_11 : decode cX1_tickOnce 11 = .ok (.getfield 29, 3) := dk_180 0 29 (dk_at dksX1_tickOnce_0 11 rfl rfl)
theorem dX1_tickOnce_14 : decode cX1_tickOnce 14 = .ok (.iload_n 1, 1) := dk_27 (dk_at dksX1_tickOnce_0 14 rfl rfl)
theorem dX1_tickOnce_15 : decode cX1_tickOnce 15 = .ok (.baload, 1) := dk_51 (dk_at dksX1_tickOnce_0 15 rfl rfl)
theorem dX1_tickOnce_16 : decode cX1_tickOnce 16 = .ok (.ifCond .ne 8, 3) := dk_154 0 8 (dk_at dksX1_tickOnce_0 16 rfl rfl)
theorem dX1_tickOnce_19 : decode cX1_tickOnce 19 = .ok (.aload_n 0, 1) := dk_42 (dk_at dksX1_tickOnce_0 19 rfl rfl)
theorem dX1_tickOnce_20 : decode cX1_tickOnce 20 = .ok (.iload_n 1, 1) := dk_27 (dk_at dksX1_tickOnce_0 20 rfl rfl)
theorem dX1_tickOnce_21 : decode cX1_tickOnce 21 = .ok (.invokevirtual 78, 3) := dk_182 0 78 (dk_at dksX1_tickOnce_0 21 rfl rfl)
theorem dX1_tickOnce_24 : decode cX1_tickOnce 24 = .ok (.iinc 1 1, 3) := dk_132 1 1 (dk_at dksX1_tickOnce_1 0 rfl rfl)
theorem dX1_tickOnce_27 : decode cX1_tickOnce 27 = .ok (.goto (-25), 3) := dk_167 255 231 (dk_at dksX1_tickOnce_1 3 rfl rfl)
theorem dX1_tickOnce_30 : decode cX1_tickOnce 30 = .ok (.aload_n 0, 1) := dk_42 (dk_at dksX1_tickOnce_1 6 rfl rfl)
theorem dX1_tickOnce_31 : decode cX1_tickOnce 31 = .ok (.dup, 1) := dk_89 (dk_at dksX1_tickOnce_1 7 rfl rfl)
theorem dX1_tickOnce_32 : decode cX1_tickOnce 32 = .ok (.getfield 56, 3) := dk_180 0 56 (dk_at dksX1_tickOnce_1 8 rfl rfl)
theorem dX1_tickOnce_35 : decode cX1_tickOnce 35 = .ok (.iconst 1, 1) := dk_4 (dk_at dksX1_tickOnce_1 11 rfl rfl)
theorem dX1_tickOnce_36 : decode cX1_tickOnce 36 = .ok (.iadd, 1) := dk_96 (dk_at dksX1_tickOnce_1 12 rfl rfl)
theorem dX1_tickOnce_37 : decode cX1_tickOnce 37 = .ok (.putfield 56, 3) := dk_181 0 56 (dk_at dksX1_tickOnce_1 13 rfl rfl)
theorem dX1_tickOnce_40 : decode cX1_tickOnce 40 = .ok (.aload_n 0, 1) := dk_42 (dk_at dksX1_tickOnce_1 16 rfl rfl)
theorem dX1_tickOnce_41 : decode cX1_tickOnce 41 = .ok (.invokevirtual 82, 3) := dk_182 0 82 (dk_at dksX1_tickOnce_1 17 rfl rfl)
theorem dX1_tickOnce_44 : decode cX1_tickOnce 44 = .ok (.ireturn, 1) := dk_172 (dk_at dksX1_tickOnce_1 20 rfl rfl)
abbrev cX1_go : ByteArray := prog_3_method_7_code
def yX1_go : MethodName := ⟨RX1, "go", "(I)V"⟩
def dkwX1_go_2 : List UInt8 := [100, 79, 177]
abbrev dktX1_go_2 : List UInt8 := dkwX1_go_2 ++ []
def dkwX1_go_1 : List UInt8 := [180, 0, 15, 27, 92, 46, 42, 180, 0, 19, 27, 46, 28, 96, 96, 79, 42, 180, 0, 22, 27, 92, 46, 28]
abbrev dktX1_go_1 : List UInt8 := dkwX1_go_1 ++ dktX1_go_2
def dkwX1_go_0 : List UInt8 := [42, 180, 0, 9, 116, 42, 180, 0, 9, 42, 180, 0, 22, 27, 46, 184, 0, 69, 184, 0, 75, 61, 42]
abbrev dktX1_go_0 : List UInt8 := dkwX1_go_0 ++ dktX1_go_1
theorem dksX1_go_0 : cX1_go.data.toList.drop 0 = dktX1_go_0 := by decide +kernel
theorem dksX1_go_1 : cX1_go.data.toList.drop 23 = dktX1_go_1 := dk_seg dksX1_go_0 23 rfl rfl
theorem dksX1_go_2 : cX1_go.data.toList.drop 47 = dktX1_go_2 := dk_seg dksX1_go_1 24 rfl rfl
theorem dX1_go_0 : decode cX1_go 0 = .ok (.aload_n 0, 1) := dk_42 (dk_at dksX1_go_0 0 rfl rfl)
theorem dX1_go_1 : decode cX1_go 1 = .ok (.getfield 9, 3) := dk_180 0 9 (dk_at dksX1_go_0 1 rfl rfl)
theorem dX1_go_4 : decode cX1_go 4 = .ok (.ineg, 1) := dk_116 (dk_at dksX1_go_0 4 rfl rfl)
theorem dX1_go_5 : decode cX1_go 5 = .ok (.aload_n 0, 1) := dk_42 (dk_at dksX1_go_0 5 rfl rfl)
theorem dX1_go_6 : decode cX1_go 6 = .ok (.getfield 9, 3) := dk_180 0 9 (dk_at dksX1_go_0 6 rfl rfl)
theorem dX1_go_9 : decode cX1_go 9 = .ok (.aload_n 0, 1) := dk_42 (dk_at dksX1_go_0 9 rfl rfl)
theorem dX1_go_10 : decode cX1_go 10 = .ok (.getfield 22, 3) := dk_180 0 22 (dk_at dksX1_go_0 10 rfl rfl)
theorem dX1_go_13 : decode cX1_go 13 = .ok (.iload_n 1, 1) := dk_27 (dk_at dksX1_go_0 13 rfl rfl)
theorem dX1_go_14 : decode cX1_go 14 = .ok (.iaload, 1) := dk_46 (dk_at dksX1_go_0 14 rfl rfl)
theorem dX1_go_15 : decode cX1_go 15 = .ok (.invokestatic 69, 3) := dk_184 0 69 (dk_at dksX1_go_0 15 rfl rfl)
theorem dX1_go_18 : decode cX1_go 18 = .ok (.invokestatic 75, 3) := dk_184 0 75 (dk_at dksX1_go_0 18 rfl rfl)
theorem dX1_go_21 : decode cX1_go 21 = .ok (.istore_n 2, 1) := dk_61 (dk_at dksX1_go_0 21 rfl rfl)
theorem dX1_go_22 : decode cX1_go 22 = .ok (.aload_n 0, 1) := dk_42 (dk_at dksX1_go_0 22 rfl rfl)
theorem dX1_go_23 : decode cX1_go 23 = .ok (.getfield 15, 3) := dk_180 0 15 (dk_at dksX1_go_1 0 rfl rfl)
theorem dX1_go_26 : decode cX1_go 26 = .ok (.iload_n 1, 1) := dk_27 (dk_at dksX1_go_1 3 rfl rfl)
theorem dX1_go_27 : decode cX1_go 27 = .ok (.dup2, 1) := dk_92 (dk_at dksX1_go_1 4 rfl rfl)
theorem dX1_go_28 : decode cX1_go 28 = .ok (.iaload, 1) := dk_46 (dk_at dksX1_go_1 5 rfl rfl)
theorem dX1_go_29 : decode cX1_go 29 = .ok (.aload_n 0, 1) := dk_42 (dk_at dksX1_go_1 6 rfl rfl)
theorem dX1_go_30 : decode cX1_go 30 = .ok (.getfield 19, 3) := dk_180 0 19 (dk_at dksX1_go_1 7 rfl rfl)
theorem dX1_go_33 : decode cX1_go 33 = .ok (.iload_n 1, 1) := dk_27 (dk_at dksX1_go_1 10 rfl rfl)
theorem dX1_go_34 : decode cX1_go 34 = .ok (.iaload, 1) := dk_46 (dk_at dksX1_go_1 11 rfl rfl)
theorem dX1_go_35 : decode cX1_go 35 = .ok (.iload_n 2, 1) := dk_28 (dk_at dksX1_go_1 12 rfl rfl)
theorem dX1_go_36 : decode cX1_go 36 = .ok (.iadd, 1) := dk_96 (dk_at dksX1_go_1 13 rfl rfl)
theorem dX1_go_37 : decode cX1_go 37 = .ok (.iadd, 1) := dk_96 (dk_at dksX1_go_1 14 rfl rfl)
theorem dX1_go_38 : decode cX1_go 38 = .ok (.iastore, 1) := dk_79 (dk_at dksX1_go_1 15 rfl rfl)
theorem dX1_go_39 : decode cX1_go 39 = .ok (.aload_n 0, 1) := dk_42 (dk_at dksX1_go_1 16 rfl rfl)
theorem dX1_go_40 : decode cX1_go 40 = .ok (.getfield 22, 3) := dk_180 0 22 (dk_at dksX1_go_1 17 rfl rfl)
theorem dX1_go_43 : decode cX1_go 43 = .ok (.iload_n 1, 1) := dk_27 (dk_at dksX1_go_1 20 rfl rfl)
theorem dX1_go_44 : decode cX1_go 44 = .ok (.dup2, 1) := dk_92 (dk_at dksX1_go_1 21 rfl rfl)
theorem dX1_go_45 : decode cX1_go 45 = .ok (.iaload, 1) := dk_46 (dk_at dksX1_go_1 22 rfl rfl)
theorem dX1_go_46 : decode cX1_go 46 = .ok (.iload_n 2, 1) := dk_28 (dk_at dksX1_go_1 23 rfl rfl)
theorem dX1_go_47 : decode cX1_go 47 = .ok (.isub, 1) := dk_100 (dk_at dksX1_go_2 0 rfl rfl)
theorem dX1_go_48 : decode cX1_go 48 = .ok (.iastore, 1) := dk_79 (dk_at dksX1_go_2 1 rfl rfl)
theorem dX1_go_49 : decode cX1_go 49 = .ok (.return_, 1) := dk_177 (dk_at dksX1_go_2 2 rfl rfl)
abbrev cX1_ring : ByteArray := prog_3_method_6_code
def yX1_ring : MethodName := ⟨RX1, "ring", "()I"⟩
def dkwX1_ring_3 : List UInt8 := [84, 27, 29, 153, 0, 9, 4, 28, 120, 167, 0, 4, 3, 128, 60, 132, 2, 1, 167, 255, 172, 27, 172]
abbrev dktX1_ring_3 : List UInt8 := dkwX1_ring_3 ++ []
def dkwX1_ring_2 : List UInt8 := [62, 42, 180, 0, 44, 28, 42, 180, 0, 44, 28, 51, 154, 0, 7, 29, 153, 0, 7, 4, 167, 0, 4, 3]
abbrev dktX1_ring_2 : List UInt8 := dkwX1_ring_2 ++ dktX1_ring_3
def dkwX1_ring_1 : List UInt8 := [180, 0, 15, 42, 180, 0, 38, 28, 46, 46, 42, 180, 0, 41, 28, 46, 161, 0, 7, 4, 167, 0, 4, 3]
abbrev dktX1_ring_1 : List UInt8 := dkwX1_ring_1 ++ dktX1_ring_2
def dkwX1_ring_0 : List UInt8 := [3, 60, 3, 61, 28, 42, 180, 0, 53, 162, 0, 82, 42, 180, 0, 44, 28, 51, 154, 0, 27, 42]
abbrev dktX1_ring_0 : List UInt8 := dkwX1_ring_0 ++ dktX1_ring_1
theorem dksX1_ring_0 : cX1_ring.data.toList.drop 0 = dktX1_ring_0 := by decide +kernel
theorem dksX1_ring_1 : cX1_ring.data.toList.drop 22 = dktX1_ring_1 := dk_seg dksX1_ring_0 22 rfl rfl
theorem dksX1_ring_2 : cX1_ring.data.toList.drop 46 = dktX1_ring_2 := dk_seg dksX1_ring_1 24 rfl rfl
theorem dksX1_ring_3 : cX1_ring.data.toList.drop 70 = dktX1_ring_3 := dk_seg dksX1_ring_2 24 rfl rfl
theorem dX1_ring_0 : decode cX1_ring 0 = .ok (.iconst 0, 1) := dk_3 (dk_at dksX1_ring_0 0 rfl rfl)
theorem dX1_ring_1 : decode cX1_ring 1 = .ok (.istore_n 1, 1) := dk_60 (dk_at dksX1_ring_0 1 rfl rfl)
theorem dX1_ring_2 : decode cX1_ring 2 = .ok (.iconst 0, 1) := dk_3 (dk_at dksX1_ring_0 2 rfl rfl)
theorem dX1_ring_3 : decode cX1_ring 3 = .ok (.istore_n 2, 1) := dk_61 (dk_at dksX1_ring_0 3 rfl rfl)
theorem dX1_ring_4 : decode cX1_ring 4 = .ok (.iload_n 2, 1) := dk_28 (dk_at dksX1_ring_0 4 rfl rfl)
theorem dX1_ring_5 : decode cX1_ring 5 = .ok (.aload_n 0, 1) := dk_42 (dk_at dksX1_ring_0 5 rfl rfl)
theorem dX1_ring_6 : decode cX1_ring 6 = .ok (.getfield 53, 3) := dk_180 0 53 (dk_at dksX1_ring_0 6 rfl rfl)
theorem dX1_ring_9 : decode cX1_ring 9 = .ok (.if_icmp .ge 82, 3) := dk_162 0 82 (dk_at dksX1_ring_0 9 rfl rfl)
theorem dX1_ring_12 : decode cX1_ring 12 = .ok (.aload_n 0, 1) := dk_42 (dk_at dksX1_ring_0 12 rfl rfl)
theorem dX1_ring_13 : decode cX1_ring 13 = .ok (.getfield 44, 3) := dk_180 0 44 (dk_at dksX1_ring_0 13 rfl rfl)
theorem dX1_ring_16 : decode cX1_ring 16 = .ok (.iload_n 2, 1) := dk_28 (dk_at dksX1_ring_0 16 rfl rfl)
theorem dX1_ring_17 : decode cX1_ring 17 = .ok (.baload, 1) := dk_51 (dk_at dksX1_ring_0 17 rfl rfl)
theorem dX1_ring_18 : decode cX1_ring 18 = .ok (.ifCond .ne 27, 3) := dk_154 0 27 (dk_at dksX1_ring_0 18 rfl rfl)
theorem dX1_ring_21 : decode cX1_ring 21 = .ok (.aload_n 0, 1) := dk_42 (dk_at dksX1_ring_0 21 rfl rfl)
theorem dX1_ring_22 : decode cX1_ring 22 = .ok (.getfield 15, 3) := dk_180 0 15 (dk_at dksX1_ring_1 0 rfl rfl)
theorem dX1_ring_25 : decode cX1_ring 25 = .ok (.aload_n 0, 1) := dk_42 (dk_at dksX1_ring_1 3 rfl rfl)
theorem dX1_ring_26 : decode cX1_ring 26 = .ok (.getfield 38, 3) := dk_180 0 38 (dk_at dksX1_ring_1 4 rfl rfl)
theorem dX1_ring_29 : decode cX1_ring 29 = .ok (.iload_n 2, 1) := dk_28 (dk_at dksX1_ring_1 7 rfl rfl)
theorem dX1_ring_30 : decode cX1_ring 30 = .ok (.iaload, 1) := dk_46 (dk_at dksX1_ring_1 8 rfl rfl)
theorem dX1_ring_31 : decode cX1_ring 31 = .ok (.iaload, 1) := dk_46 (dk_at dksX1_ring_1 9 rfl rfl)
theorem dX1_ring_32 : decode cX1_ring 32 = .ok (.aload_n 0, 1) := dk_42 (dk_at dksX1_ring_1 10 rfl rfl)
theorem dX1_ring_33 : decode cX1_ring 33 = .ok (.getfield 41, 3) := dk_180 0 41 (dk_at dksX1_ring_1 11 rfl rfl)
theorem dX1_ring_36 : decode cX1_ring 36 = .ok (.iload_n 2, 1) := dk_28 (dk_at dksX1_ring_1 14 rfl rfl)
theorem dX1_ring_37 : decode cX1_ring 37 = .ok (.iaload, 1) := dk_46 (dk_at dksX1_ring_1 15 rfl rfl)
theorem dX1_ring_38 : decode cX1_ring 38 = .ok (.if_icmp .lt 7, 3) := dk_161 0 7 (dk_at dksX1_ring_1 16 rfl rfl)
theorem dX1_ring_41 : decode cX1_ring 41 = .ok (.iconst 1, 1) := dk_4 (dk_at dksX1_ring_1 19 rfl rfl)
theorem dX1_ring_42 : decode cX1_ring 42 = .ok (.goto 4, 3) := dk_167 0 4 (dk_at dksX1_ring_1 20 rfl rfl)
theorem dX1_ring_45 : decode cX1_ring 45 = .ok (.iconst 0, 1) := dk_3 (dk_at dksX1_ring_1 23 rfl rfl)
theorem dX1_ring_46 : decode cX1_ring 46 = .ok (.istore_n 3, 1) := dk_62 (dk_at dksX1_ring_2 0 rfl rfl)
theorem dX1_ring_47 : decode cX1_ring 47 = .ok (.aload_n 0, 1) := dk_42 (dk_at dksX1_ring_2 1 rfl rfl)
theorem dX1_ring_48 : decode cX1_ring 48 = .ok (.getfield 44, 3) := dk_180 0 44 (dk_at dksX1_ring_2 2 rfl rfl)
theorem dX1_ring_51 : decode cX1_ring 51 = .ok (.iload_n 2, 1) := dk_28 (dk_at dksX1_ring_2 5 rfl rfl)
theorem dX1_ring_52 : decode cX1_ring 52 = .ok (.aload_n 0, 1) := dk_42 (dk_at dksX1_ring_2 6 rfl rfl)
theorem dX1_ring_53 : decode cX1_ring 53 = .ok (.getfield 44, 3) := dk_180 0 44 (dk_at dksX1_ring_2 7 rfl rfl)
theorem dX1_ring_56 : decode cX1_ring 56 = .ok (.iload_n 2, 1) := dk_28 (dk_at dksX1_ring_2 10 rfl rfl)
theorem dX1_ring_57 : decode cX1_ring 57 = .ok (.baload, 1) := dk_51 (dk_at dksX1_ring_2 11 rfl rfl)
theorem dX1_ring_58 : decode cX1_ring 58 = .ok (.ifCond .ne 7, 3) := dk_154 0 7 (dk_at dksX1_ring_2 12 rfl rfl)
theorem dX1_ring_61 : decode cX1_ring 61 = .ok (.iload_n 3, 1) := dk_29 (dk_at dksX1_ring_2 15 rfl rfl)
theorem dX1_ring_62 : decode cX1_ring 62 = .ok (.ifCond .eq 7, 3) := dk_153 0 7 (dk_at dksX1_ring_2 16 rfl rfl)
theorem dX1_ring_65 : decode cX1_ring 65 = .ok (.iconst 1, 1) := dk_4 (dk_at dksX1_ring_2 19 rfl rfl)
theorem dX1_ring_66 : decode cX1_ring 66 = .ok (.goto 4, 3) := dk_167 0 4 (dk_at dksX1_ring_2 20 rfl rfl)
theorem dX1_ring_69 : decode cX1_ring 69 = .ok (.iconst 0, 1) := dk_3 (dk_at dksX1_ring_2 23 rfl rfl)
theorem dX1_ring_70 : decode cX1_ring 70 = .ok (.bastore, 1) := dk_84 (dk_at dksX1_ring_3 0 rfl rfl)
theorem dX1_ring_71 : decode cX1_ring 71 = .ok (.iload_n 1, 1) := dk_27 (dk_at dksX1_ring_3 1 rfl rfl)
theorem dX1_ring_72 : decode cX1_ring 72 = .ok (.iload_n 3, 1) := dk_29 (dk_at dksX1_ring_3 2 rfl rfl)
theorem dX1_ring_73 : decode cX1_ring 73 = .ok (.ifCond .eq 9, 3) := dk_153 0 9 (dk_at dksX1_ring_3 3 rfl rfl)
theorem dX1_ring_76 : decode cX1_ring 76 = .ok (.iconst 1, 1) := dk_4 (dk_at dksX1_ring_3 6 rfl rfl)
theorem dX1_ring_77 : decode cX1_ring 77 = .ok (.iload_n 2, 1) := dk_28 (dk_at dksX1_ring_3 7 rfl rfl)
theorem dX1_ring_78 : decode cX1_ring 78 = .ok (.ishl, 1) := dk_120 (dk_at dksX1_ring_3 8 rfl rfl)
theorem dX1_ring_79 : decode cX1_ring 79 = .ok (.goto 4, 3) := dk_167 0 4 (dk_at dksX1_ring_3 9 rfl rfl)
theorem dX1_ring_82 : decode cX1_ring 82 = .ok (.iconst 0, 1) := dk_3 (dk_at dksX1_ring_3 12 rfl rfl)
theorem dX1_ring_83 : decode cX1_ring 83 = .ok (.ior, 1) := dk_128 (dk_at dksX1_ring_3 13 rfl rfl)
theorem dX1_ring_84 : decode cX1_ring 84 = .ok (.istore_n 1, 1) := dk_60 (dk_at dksX1_ring_3 14 rfl rfl)
theorem dX1_ring_85 : decode cX1_ring 85 = .ok (.iinc 2 1, 3) := dk_132 2 1 (dk_at dksX1_ring_3 15 rfl rfl)
theorem dX1_ring_88 : decode cX1_ring 88 = .ok (.goto (-84), 3) := dk_167 255 172 (dk_at dksX1_ring_3 18 rfl rfl)
theorem dX1_ring_91 : decode cX1_ring 91 = .ok (.iload_n 1, 1) := dk_27 (dk_at dksX1_ring_3 21 rfl rfl)
theorem dX1_ring_92 : decode cX1_ring 92 = .ok (.ireturn, 1) := dk_172 (dk_at dksX1_ring_3 22 rfl rfl)
theorem q70 : (Jvm.Cond.initialized "LiarClocks$House") ∈ lw_all := lw_g (lw_at lw_m1 2 rfl) rfl
theorem q114 : (Jvm.Cond.instantiable "LiarClocks$House" (15 : Nat)) ∈ lw_all := lw_g (lw_at lw_m1 46 rfl) rfl
theorem q116 : (Jvm.Cond.instanceMethod ({ cls := "LiarClocks$House", name := "<init>", desc := "()V" } : Jvm.MethodName)) ∈ lw_all := lw_g (lw_at lw_m1 48 rfl) rfl
theorem q117 : (Jvm.Cond.code ({ cls := "LiarClocks$House", name := "<init>", desc := "()V" } : Jvm.MethodName) prog_3_method_1_code (1 : Nat) (Option.none : Option Jvm.ClassFile.FieldType)) ∈ lw_all := lw_g (lw_at lw_m1 49 rfl) rfl
theorem q118 : (Jvm.Cond.methodLink "LiarClocks$House" (3 : Nat) ({ cls := "java/lang/Object", name := "<init>", desc := "()V" } : Jvm.MethodName)) ∈ lw_all := lw_g (lw_at lw_m1 50 rfl) rfl
theorem q119 : (Jvm.Cond.fieldLink "LiarClocks$House" (47 : Nat) "LiarClocks$House" "many" "I") ∈ lw_all := lw_g (lw_at lw_m1 51 rfl) rfl
theorem q122 : (Jvm.Cond.fieldLink "LiarClocks$House" (50 : Nat) "LiarClocks$House" "strike" "I") ∈ lw_all := lw_g (lw_at lw_m1 54 rfl) rfl
theorem q125 : (Jvm.Cond.fieldLink "LiarClocks$House" (9 : Nat) "LiarClocks$House" "step" "I") ∈ lw_all := lw_g (lw_at lw_m1 57 rfl) rfl
theorem q128 : (Jvm.Cond.fieldLink "LiarClocks$House" (15 : Nat) "LiarClocks$House" "values" "[I") ∈ lw_all := lw_g (lw_at lw_m1 60 rfl) rfl
theorem q131 : (Jvm.Cond.fieldLink "LiarClocks$House" (19 : Nat) "LiarClocks$House" "rates" "[I") ∈ lw_all := lw_g (lw_at lw_m1 63 rfl) rfl
theorem q134 : (Jvm.Cond.fieldLink "LiarClocks$House" (22 : Nat) "LiarClocks$House" "ahead" "[I") ∈ lw_all := lw_g (lw_at lw_m1 66 rfl) rfl
theorem q136 : (Jvm.Cond.fieldLink "LiarClocks$House" (25 : Nat) "LiarClocks$House" "lies" "[Z") ∈ lw_all := lw_g (lw_at lw_m1 68 rfl) rfl
theorem q139 : (Jvm.Cond.fieldLink "LiarClocks$House" (29 : Nat) "LiarClocks$House" "stands" "[Z") ∈ lw_all := lw_g (lw_at lw_m1 71 rfl) rfl
theorem q141 : (Jvm.Cond.fieldLink "LiarClocks$House" (32 : Nat) "LiarClocks$House" "lie" "[I") ∈ lw_all := lw_g (lw_at lw_m1 73 rfl) rfl
theorem q143 : (Jvm.Cond.fieldLink "LiarClocks$House" (35 : Nat) "LiarClocks$House" "error" "[I") ∈ lw_all := lw_g (lw_at lw_m1 75 rfl) rfl
theorem q145 : (Jvm.Cond.fieldLink "LiarClocks$House" (53 : Nat) "LiarClocks$House" "alarms" "I") ∈ lw_all := lw_g (lw_at lw_m1 77 rfl) rfl
theorem q147 : (Jvm.Cond.fieldLink "LiarClocks$House" (38 : Nat) "LiarClocks$House" "alarmOf" "[I") ∈ lw_all := lw_g (lw_at lw_m1 79 rfl) rfl
theorem q149 : (Jvm.Cond.fieldLink "LiarClocks$House" (41 : Nat) "LiarClocks$House" "alarmAt" "[I") ∈ lw_all := lw_g (lw_at lw_m1 81 rfl) rfl
theorem q151 : (Jvm.Cond.fieldLink "LiarClocks$House" (44 : Nat) "LiarClocks$House" "isRung" "[Z") ∈ lw_all := lw_g (lw_at lw_m1 83 rfl) rfl
theorem q153 : (Jvm.Cond.fieldLink "LiarClocks$House" (56 : Nat) "LiarClocks$House" "times" "I") ∈ lw_all := lw_g (lw_at lw_m1 85 rfl) rfl
theorem q155 : (Jvm.Cond.lays "LiarClocks$House" "LiarClocks$House" "many" "I") ∈ lw_all := lw_g (lw_at lw_m1 87 rfl) rfl
theorem q156 : (Jvm.Cond.soleField "LiarClocks$House" "many") ∈ lw_all := lw_g (lw_at lw_m1 88 rfl) rfl
theorem q157 : (Jvm.Cond.lays "LiarClocks$House" "LiarClocks$House" "strike" "I") ∈ lw_all := lw_g (lw_at lw_m1 89 rfl) rfl
theorem q158 : (Jvm.Cond.soleField "LiarClocks$House" "strike") ∈ lw_all := lw_g (lw_at lw_m1 90 rfl) rfl
theorem q159 : (Jvm.Cond.lays "LiarClocks$House" "LiarClocks$House" "step" "I") ∈ lw_all := lw_g (lw_at lw_m1 91 rfl) rfl
theorem q160 : (Jvm.Cond.soleField "LiarClocks$House" "step") ∈ lw_all := lw_g (lw_at lw_m1 92 rfl) rfl
theorem q161 : (Jvm.Cond.laysFinal "LiarClocks$House" "LiarClocks$House" "values" "[I") ∈ lw_all := lw_g (lw_at lw_m1 93 rfl) rfl
theorem q162 : (Jvm.Cond.soleField "LiarClocks$House" "values") ∈ lw_all := lw_g (lw_at lw_m1 94 rfl) rfl
theorem q163 : (Jvm.Cond.laysFinal "LiarClocks$House" "LiarClocks$House" "rates" "[I") ∈ lw_all := lw_g (lw_at lw_m1 95 rfl) rfl
theorem q164 : (Jvm.Cond.soleField "LiarClocks$House" "rates") ∈ lw_all := lw_g (lw_at lw_m1 96 rfl) rfl
theorem q165 : (Jvm.Cond.laysFinal "LiarClocks$House" "LiarClocks$House" "ahead" "[I") ∈ lw_all := lw_g (lw_at lw_m1 97 rfl) rfl
theorem q166 : (Jvm.Cond.soleField "LiarClocks$House" "ahead") ∈ lw_all := lw_g (lw_at lw_m1 98 rfl) rfl
theorem q167 : (Jvm.Cond.laysFinal "LiarClocks$House" "LiarClocks$House" "lies" "[Z") ∈ lw_all := lw_g (lw_at lw_m1 99 rfl) rfl
theorem q168 : (Jvm.Cond.soleField "LiarClocks$House" "lies") ∈ lw_all := lw_g (lw_at lw_m1 100 rfl) rfl
theorem q169 : (Jvm.Cond.laysFinal "LiarClocks$House" "LiarClocks$House" "stands" "[Z") ∈ lw_all := lw_g (lw_at lw_m1 101 rfl) rfl
theorem q170 : (Jvm.Cond.soleField "LiarClocks$House" "stands") ∈ lw_all := lw_g (lw_at lw_m1 102 rfl) rfl
theorem q171 : (Jvm.Cond.laysFinal "LiarClocks$House" "LiarClocks$House" "lie" "[I") ∈ lw_all := lw_g (lw_at lw_m1 103 rfl) rfl
theorem q172 : (Jvm.Cond.soleField "LiarClocks$House" "lie") ∈ lw_all := lw_g (lw_at lw_m1 104 rfl) rfl
theorem q173 : (Jvm.Cond.laysFinal "LiarClocks$House" "LiarClocks$House" "error" "[I") ∈ lw_all := lw_g (lw_at lw_m1 105 rfl) rfl
theorem q174 : (Jvm.Cond.soleField "LiarClocks$House" "error") ∈ lw_all := lw_g (lw_at lw_m1 106 rfl) rfl
theorem q175 : (Jvm.Cond.lays "LiarClocks$House" "LiarClocks$House" "alarms" "I") ∈ lw_all := lw_g (lw_at lw_m1 107 rfl) rfl
theorem q176 : (Jvm.Cond.soleField "LiarClocks$House" "alarms") ∈ lw_all := lw_g (lw_at lw_m1 108 rfl) rfl
theorem q177 : (Jvm.Cond.laysFinal "LiarClocks$House" "LiarClocks$House" "alarmOf" "[I") ∈ lw_all := lw_g (lw_at lw_m1 109 rfl) rfl
theorem q178 : (Jvm.Cond.soleField "LiarClocks$House" "alarmOf") ∈ lw_all := lw_g (lw_at lw_m1 110 rfl) rfl
theorem q179 : (Jvm.Cond.laysFinal "LiarClocks$House" "LiarClocks$House" "alarmAt" "[I") ∈ lw_all := lw_g (lw_at lw_m1 111 rfl) rfl
theorem q180 : (Jvm.Cond.soleField "LiarClocks$House" "alarmAt") ∈ lw_all := lw_g (lw_at lw_m1 112 rfl) rfl
theorem q181 : (Jvm.Cond.laysFinal "LiarClocks$House" "LiarClocks$House" "isRung" "[Z") ∈ lw_all := lw_g (lw_at lw_m1 113 rfl) rfl
theorem q182 : (Jvm.Cond.soleField "LiarClocks$House" "isRung") ∈ lw_all := lw_g (lw_at lw_m1 114 rfl) rfl
theorem q183 : (Jvm.Cond.lays "LiarClocks$House" "LiarClocks$House" "times" "I") ∈ lw_all := lw_g (lw_at lw_m1 115 rfl) rfl
theorem q184 : (Jvm.Cond.soleField "LiarClocks$House" "times") ∈ lw_all := lw_g (lw_at lw_m1 116 rfl) rfl
theorem q185 : (Jvm.Cond.superclass "LiarClocks$House" "java/lang/Object") ∈ lw_all := lw_g (lw_at lw_m1 117 rfl) rfl
theorem q397 : (Jvm.Cond.instanceMethod ({ cls := "LiarClocks$House", name := "become", desc := "(LLiarClocks$House;)V" } : Jvm.MethodName)) ∈ lw_all := lw_g (lw_at lw_m2 89 rfl) rfl
theorem q398 : (Jvm.Cond.selects "LiarClocks$House" ({ cls := "LiarClocks$House", name := "become", desc := "(LLiarClocks$House;)V" } : Jvm.MethodName) ({ cls := "LiarClocks$House", name := "become", desc := "(LLiarClocks$House;)V" } : Jvm.MethodName)) ∈ lw_all := lw_g (lw_at lw_m2 90 rfl) rfl
theorem q399 : (Jvm.Cond.code ({ cls := "LiarClocks$House", name := "become", desc := "(LLiarClocks$House;)V" } : Jvm.MethodName) prog_3_method_2_code (2 : Nat) (Option.none : Option Jvm.ClassFile.FieldType)) ∈ lw_all := lw_g (lw_at lw_m2 91 rfl) rfl
theorem q400 : (Jvm.Cond.methodLink "LiarClocks$House" (59 : Nat) ({ cls := "java/lang/System", name := "arraycopy", desc := "(Ljava/lang/Object;ILjava/lang/Object;II)V" } : Jvm.MethodName)) ∈ lw_all := lw_g (lw_at lw_m2 92 rfl) rfl
theorem q425 : (Jvm.Cond.instanceMethod ({ cls := "LiarClocks$House", name := "setOf", desc := "([Z)I" } : Jvm.MethodName)) ∈ lw_all := lw_g (lw_at lw_m2 117 rfl) rfl
theorem q426 : (Jvm.Cond.selects "LiarClocks$House" ({ cls := "LiarClocks$House", name := "setOf", desc := "([Z)I" } : Jvm.MethodName) ({ cls := "LiarClocks$House", name := "setOf", desc := "([Z)I" } : Jvm.MethodName)) ∈ lw_all := lw_g (lw_at lw_m2 118 rfl) rfl
theorem q427 : (Jvm.Cond.code ({ cls := "LiarClocks$House", name := "setOf", desc := "([Z)I" } : Jvm.MethodName) prog_3_method_9_code (4 : Nat) (Option.some Jvm.ClassFile.FieldType.int)) ∈ lw_all := lw_g (lw_at lw_m2 119 rfl) rfl
theorem q429 : (Jvm.Cond.instanceMethod ({ cls := "LiarClocks$House", name := "trueOnes", desc := "()I" } : Jvm.MethodName)) ∈ lw_all := lw_g (lw_at lw_m2 121 rfl) rfl
theorem q430 : (Jvm.Cond.selects "LiarClocks$House" ({ cls := "LiarClocks$House", name := "trueOnes", desc := "()I" } : Jvm.MethodName) ({ cls := "LiarClocks$House", name := "trueOnes", desc := "()I" } : Jvm.MethodName)) ∈ lw_all := lw_g (lw_at lw_m2 122 rfl) rfl
theorem q431 : (Jvm.Cond.code ({ cls := "LiarClocks$House", name := "trueOnes", desc := "()I" } : Jvm.MethodName) prog_3_method_10_code (1 : Nat) (Option.some Jvm.ClassFile.FieldType.int)) ∈ lw_all := lw_g (lw_at lw_m2 123 rfl) rfl
theorem q432 : (Jvm.Cond.methodLink "LiarClocks$House" (86 : Nat) ({ cls := "LiarClocks$House", name := "setOf", desc := "([Z)I" } : Jvm.MethodName)) ∈ lw_all := lw_g (lw_at lw_m2 124 rfl) rfl
theorem q434 : (Jvm.Cond.instanceMethod ({ cls := "LiarClocks$House", name := "apart", desc := "()I" } : Jvm.MethodName)) ∈ lw_all := lw_g (lw_at lw_m2 126 rfl) rfl
theorem q435 : (Jvm.Cond.selects "LiarClocks$House" ({ cls := "LiarClocks$House", name := "apart", desc := "()I" } : Jvm.MethodName) ({ cls := "LiarClocks$House", name := "apart", desc := "()I" } : Jvm.MethodName)) ∈ lw_all := lw_g (lw_at lw_m2 127 rfl) rfl
theorem q436 : (Jvm.Cond.code ({ cls := "LiarClocks$House", name := "apart", desc := "()I" } : Jvm.MethodName) prog_3_method_11_code (4 : Nat) (Option.some Jvm.ClassFile.FieldType.int)) ∈ lw_all := lw_g (lw_at lw_m2 128 rfl) rfl
theorem q437 : (Jvm.Cond.constant "LiarClocks$House" (90 : Nat) (500000000 : Int32)) ∈ lw_all := lw_g (lw_at lw_m2 129 rfl) rfl
theorem q438 : (Jvm.Cond.constant "LiarClocks$House" (91 : Nat) (-500000000 : Int32)) ∈ lw_all := lw_g (lw_at lw_m2 130 rfl) rfl
theorem q439 : (Jvm.Cond.methodLink "LiarClocks$House" (92 : Nat) ({ cls := "LiarClocks$House", name := "isTrue", desc := "(I)Z" } : Jvm.MethodName)) ∈ lw_all := lw_g (lw_at lw_m2 131 rfl) rfl
theorem q440 : (Jvm.Cond.instanceMethod ({ cls := "LiarClocks$House", name := "isTrue", desc := "(I)Z" } : Jvm.MethodName)) ∈ lw_all := lw_g (lw_at lw_m2 132 rfl) rfl
theorem q441 : (Jvm.Cond.selects "LiarClocks$House" ({ cls := "LiarClocks$House", name := "isTrue", desc := "(I)Z" } : Jvm.MethodName) ({ cls := "LiarClocks$House", name := "isTrue", desc := "(I)Z" } : Jvm.MethodName)) ∈ lw_all := lw_g (lw_at lw_m2 133 rfl) rfl
theorem q442 : (Jvm.Cond.code ({ cls := "LiarClocks$House", name := "isTrue", desc := "(I)Z" } : Jvm.MethodName) prog_3_method_4_code (2 : Nat) (Option.some Jvm.ClassFile.FieldType.boolean)) ∈ lw_all := lw_g (lw_at lw_m2 134 rfl) rfl
theorem q443 : (Jvm.Cond.methodLink "LiarClocks$House" (65 : Nat) ({ cls := "LiarClocks$House", name := "aim", desc := "(I)I" } : Jvm.MethodName)) ∈ lw_all := lw_g (lw_at lw_m2 135 rfl) rfl
theorem q444 : (Jvm.Cond.instanceMethod ({ cls := "LiarClocks$House", name := "aim", desc := "(I)I" } : Jvm.MethodName)) ∈ lw_all := lw_g (lw_at lw_m2 136 rfl) rfl
theorem q445 : (Jvm.Cond.selects "LiarClocks$House" ({ cls := "LiarClocks$House", name := "aim", desc := "(I)I" } : Jvm.MethodName) ({ cls := "LiarClocks$House", name := "aim", desc := "(I)I" } : Jvm.MethodName)) ∈ lw_all := lw_g (lw_at lw_m2 137 rfl) rfl
theorem q446 : (Jvm.Cond.code ({ cls := "LiarClocks$House", name := "aim", desc := "(I)I" } : Jvm.MethodName) prog_3_method_3_code (2 : Nat) (Option.some Jvm.ClassFile.FieldType.int)) ∈ lw_all := lw_g (lw_at lw_m2 138 rfl) rfl
theorem q447 : (Jvm.Cond.methodLink "LiarClocks$House" (69 : Nat) ({ cls := "java/lang/Math", name := "min", desc := "(II)I" } : Jvm.MethodName)) ∈ lw_all := lw_g (lw_at lw_m2 139 rfl) rfl
theorem q448 : (Jvm.Cond.methodLink "LiarClocks$House" (75 : Nat) ({ cls := "java/lang/Math", name := "max", desc := "(II)I" } : Jvm.MethodName)) ∈ lw_all := lw_g (lw_at lw_m2 140 rfl) rfl
theorem q472 : (Jvm.Cond.instanceMethod ({ cls := "LiarClocks$House", name := "heardBy", desc := "(II)I" } : Jvm.MethodName)) ∈ lw_all := lw_g (lw_at lw_m2 164 rfl) rfl
theorem q473 : (Jvm.Cond.selects "LiarClocks$House" ({ cls := "LiarClocks$House", name := "heardBy", desc := "(II)I" } : Jvm.MethodName) ({ cls := "LiarClocks$House", name := "heardBy", desc := "(II)I" } : Jvm.MethodName)) ∈ lw_all := lw_g (lw_at lw_m2 165 rfl) rfl
theorem q474 : (Jvm.Cond.code ({ cls := "LiarClocks$House", name := "heardBy", desc := "(II)I" } : Jvm.MethodName) prog_3_method_5_code (3 : Nat) (Option.some Jvm.ClassFile.FieldType.int)) ∈ lw_all := lw_g (lw_at lw_m2 166 rfl) rfl
theorem q664 : (Jvm.Cond.instanceMethod ({ cls := "LiarClocks$House", name := "tickOnce", desc := "()I" } : Jvm.MethodName)) ∈ lw_all := lw_g (lw_at lw_m3 116 rfl) rfl
theorem q665 : (Jvm.Cond.selects "LiarClocks$House" ({ cls := "LiarClocks$House", name := "tickOnce", desc := "()I" } : Jvm.MethodName) ({ cls := "LiarClocks$House", name := "tickOnce", desc := "()I" } : Jvm.MethodName)) ∈ lw_all := lw_g (lw_at lw_m3 117 rfl) rfl
theorem q666 : (Jvm.Cond.code ({ cls := "LiarClocks$House", name := "tickOnce", desc := "()I" } : Jvm.MethodName) prog_3_method_8_code (2 : Nat) (Option.some Jvm.ClassFile.FieldType.int)) ∈ lw_all := lw_g (lw_at lw_m3 118 rfl) rfl
theorem q667 : (Jvm.Cond.methodLink "LiarClocks$House" (78 : Nat) ({ cls := "LiarClocks$House", name := "go", desc := "(I)V" } : Jvm.MethodName)) ∈ lw_all := lw_g (lw_at lw_m3 119 rfl) rfl
theorem q668 : (Jvm.Cond.privateMethod ({ cls := "LiarClocks$House", name := "go", desc := "(I)V" } : Jvm.MethodName)) ∈ lw_tbl := lw_at lw_m3 120 rfl
theorem q669 : (Jvm.Cond.instanceMethod ({ cls := "LiarClocks$House", name := "go", desc := "(I)V" } : Jvm.MethodName)) ∈ lw_all := lw_g (lw_at lw_m3 121 rfl) rfl
theorem q670 : (Jvm.Cond.code ({ cls := "LiarClocks$House", name := "go", desc := "(I)V" } : Jvm.MethodName) prog_3_method_7_code (3 : Nat) (Option.none : Option Jvm.ClassFile.FieldType)) ∈ lw_all := lw_g (lw_at lw_m3 122 rfl) rfl
theorem q671 : (Jvm.Cond.methodLink "LiarClocks$House" (82 : Nat) ({ cls := "LiarClocks$House", name := "ring", desc := "()I" } : Jvm.MethodName)) ∈ lw_all := lw_g (lw_at lw_m3 123 rfl) rfl
theorem q672 : (Jvm.Cond.privateMethod ({ cls := "LiarClocks$House", name := "ring", desc := "()I" } : Jvm.MethodName)) ∈ lw_tbl := lw_at lw_m3 124 rfl
theorem q673 : (Jvm.Cond.instanceMethod ({ cls := "LiarClocks$House", name := "ring", desc := "()I" } : Jvm.MethodName)) ∈ lw_all := lw_g (lw_at lw_m3 125 rfl) rfl
theorem q674 : (Jvm.Cond.code ({ cls := "LiarClocks$House", name := "ring", desc := "()I" } : Jvm.MethodName) prog_3_method_6_code (4 : Nat) (Option.some Jvm.ClassFile.FieldType.int)) ∈ lw_all := lw_g (lw_at lw_m3 126 rfl) rfl
theorem in_X1 : ∀ w ∈ wsX10, w ∈ lw_all := lw_in wsX10 [155, 157, 159, 161, 163, 165, 167, 169, 171, 173, 175, 177, 179, 181, 183] (by decide +kernel) (by decide +kernel)

/-! LiarClocks$Unheard -/
set_option maxRecDepth 100000
def RX10 : String := "LiarClocks$Unheard"
def TX10 : u_T := fun k => match k with
  | 0 => ("java/lang/Throwable", "cause", "Ljava/lang/Throwable;", false)
  | 1 => ("java/lang/Throwable", "stackTrace", "[Ljava/lang/StackTraceElement;", false)
  | 2 => ("java/lang/Throwable", "suppressedExceptions", "Ljava/util/List;", false)
  | 3 => ("java/lang/Throwable", "detailMessage", "Ljava/lang/String;", false)
  | 4 => ("java/lang/Throwable", "backtrace", "Ljava/lang/Object;", false)
  | _ => ("java/lang/Throwable", "depth", "I", false)
def tyX10 : Nat → FieldType := fun k => match k with
  | 0 => .object "java/lang/Throwable"
  | 1 => .array (.object "java/lang/StackTraceElement")
  | 2 => .object "java/util/List"
  | 3 => .object "java/lang/String"
  | 4 => .object "java/lang/Object"
  | _ => .int
abbrev wsX100 : List Cond := u_ws RX10 TX10 6
theorem nmX10 : ∀ a, a < 6 → ∀ b, b < 6 → a ≠ b → (TX10 a).2.1 ≠ (TX10 b).2.1 := by decide +kernel
theorem tyX10_ok : ∀ k, k < 6 → parseFieldDescriptor (TX10 k).2.2.1 = some (tyX10 k) := by decide +kernel
abbrev cX10_init : ByteArray := prog_9_method_1_code
def yX10_init : MethodName := ⟨RX10, "<init>", "()V"⟩
def dkwX10_init_0 : List UInt8 := [42, 18, 1, 183, 0, 3, 177]
abbrev dktX10_init_0 : List UInt8 := dkwX10_init_0 ++ []
theorem dksX10_init_0 : cX10_init.data.toList.drop 0 = dktX10_init_0 := by decide +kernel
theorem dX10_init_0 : decode cX10_init 0 = .ok (.aload_n 0, 1) := dk_42 (dk_at dksX10_init_0 0 rfl rfl)
theorem dX10_init_1 : decode cX10_init 1 = .ok (.ldc 1, 2) := dk_18 1 (dk_at dksX10_init_0 1 rfl rfl)
theorem dX10_init_3 : decode cX10_init 3 = .ok (.invokespecial 3, 3) := dk_183 0 3 (dk_at dksX10_init_0 3 rfl rfl)
theorem dX10_init_6 : decode cX10_init 6 = .ok (.return_, 1) := dk_177 (dk_at dksX10_init_0 6 rfl rfl)
theorem q84 : (Jvm.Cond.initialized "LiarClocks$Unheard") ∈ lw_all := lw_g (lw_at lw_m1 16 rfl) rfl
theorem q266 : (Jvm.Cond.selects "LiarClocks$Unheard" ({ cls := "java/lang/Throwable", name := "fillInStackTrace", desc := "()Ljava/lang/Throwable;" } : Jvm.MethodName) ({ cls := "java/lang/Throwable", name := "fillInStackTrace", desc := "()Ljava/lang/Throwable;" } : Jvm.MethodName)) ∈ lw_all := lw_g (lw_at lw_m1 198 rfl) rfl
theorem q492 : (Jvm.Cond.instantiable "LiarClocks$Unheard" (6 : Nat)) ∈ lw_all := lw_g (lw_at lw_m2 184 rfl) rfl
theorem q493 : (Jvm.Cond.castable "LiarClocks$Unheard" "LiarClocks$Unheard") ∈ lw_tbl := lw_at lw_m2 185 rfl
theorem q494 : (Jvm.Cond.selects "LiarClocks$Unheard" ({ cls := "java/lang/Throwable", name := "fillInStackTrace", desc := "(I)Ljava/lang/Throwable;" } : Jvm.MethodName) ({ cls := "java/lang/Throwable", name := "fillInStackTrace", desc := "(I)Ljava/lang/Throwable;" } : Jvm.MethodName)) ∈ lw_all := lw_g (lw_at lw_m2 186 rfl) rfl
theorem q495 : (Jvm.Cond.lays "LiarClocks$Unheard" "java/lang/Throwable" "cause" "Ljava/lang/Throwable;") ∈ lw_all := lw_g (lw_at lw_m2 187 rfl) rfl
theorem q496 : (Jvm.Cond.lays "LiarClocks$Unheard" "java/lang/Throwable" "stackTrace" "[Ljava/lang/StackTraceElement;") ∈ lw_all := lw_g (lw_at lw_m2 188 rfl) rfl
theorem q497 : (Jvm.Cond.lays "LiarClocks$Unheard" "java/lang/Throwable" "suppressedExceptions" "Ljava/util/List;") ∈ lw_all := lw_g (lw_at lw_m2 189 rfl) rfl
theorem q498 : (Jvm.Cond.lays "LiarClocks$Unheard" "java/lang/Throwable" "detailMessage" "Ljava/lang/String;") ∈ lw_all := lw_g (lw_at lw_m2 190 rfl) rfl
theorem q499 : (Jvm.Cond.lays "LiarClocks$Unheard" "java/lang/Throwable" "backtrace" "Ljava/lang/Object;") ∈ lw_all := lw_g (lw_at lw_m2 191 rfl) rfl
theorem q501 : (Jvm.Cond.instanceMethod ({ cls := "LiarClocks$Unheard", name := "<init>", desc := "()V" } : Jvm.MethodName)) ∈ lw_all := lw_g (lw_at lw_m2 193 rfl) rfl
theorem q502 : (Jvm.Cond.code ({ cls := "LiarClocks$Unheard", name := "<init>", desc := "()V" } : Jvm.MethodName) prog_9_method_1_code (1 : Nat) (Option.none : Option Jvm.ClassFile.FieldType)) ∈ lw_all := lw_g (lw_at lw_m2 194 rfl) rfl
theorem q503 : (Jvm.Cond.stringRef "LiarClocks$Unheard" (1 : Nat) "too little is heard") ∈ lw_tbl := lw_at lw_m2 195 rfl
theorem q504 : (Jvm.Cond.methodLink "LiarClocks$Unheard" (3 : Nat) ({ cls := "java/lang/Exception", name := "<init>", desc := "(Ljava/lang/String;)V" } : Jvm.MethodName)) ∈ lw_all := lw_g (lw_at lw_m2 196 rfl) rfl
theorem q505 : (Jvm.Cond.lays "LiarClocks$Unheard" "java/lang/Throwable" "depth" "I") ∈ lw_all := lw_g (lw_at lw_m2 197 rfl) rfl
theorem q506 : (Jvm.Cond.superclass "LiarClocks$Unheard" "java/lang/Exception") ∈ lw_all := lw_g (lw_at lw_m2 198 rfl) rfl
theorem q721 : (Jvm.Cond.sameMethod "LiarClocks$Unheard" "java/lang/Throwable" "initCause" "(Ljava/lang/Throwable;)Ljava/lang/Throwable;") ∈ lw_all := lw_g (lw_at lw_m3 173 rfl) rfl
theorem q722 : (Jvm.Cond.selects "LiarClocks$Unheard" ({ cls := "LiarClocks$Unheard", name := "initCause", desc := "(Ljava/lang/Throwable;)Ljava/lang/Throwable;" } : Jvm.MethodName) ({ cls := "java/lang/Throwable", name := "initCause", desc := "(Ljava/lang/Throwable;)Ljava/lang/Throwable;" } : Jvm.MethodName)) ∈ lw_all := lw_g (lw_at lw_m3 174 rfl) rfl
theorem q725 : (Jvm.Cond.sameMethod "LiarClocks$Unheard" "java/lang/Throwable" "getCause" "()Ljava/lang/Throwable;") ∈ lw_all := lw_g (lw_at lw_m3 177 rfl) rfl
theorem q726 : (Jvm.Cond.selects "LiarClocks$Unheard" ({ cls := "LiarClocks$Unheard", name := "getCause", desc := "()Ljava/lang/Throwable;" } : Jvm.MethodName) ({ cls := "java/lang/Throwable", name := "getCause", desc := "()Ljava/lang/Throwable;" } : Jvm.MethodName)) ∈ lw_all := lw_g (lw_at lw_m3 178 rfl) rfl
theorem in_X10 : ∀ w ∈ wsX100, w ∈ lw_all := lw_in wsX100 [495, 496, 497, 498, 499, 505] (by decide +kernel) (by decide +kernel)

/-! LiarClocks$Reader -/
set_option maxRecDepth 100000
def RX3 : String := "LiarClocks$Reader"
def TX3 : u_T := fun k => match k with
  | 0 => ("LiarClocks$Reader", "read", "LLiarClocks$House;", true)
  | 1 => ("LiarClocks$Reader", "hasStrike", "Z", false)
  | 2 => ("LiarClocks$Reader", "hasStep", "Z", false)
  | 3 => ("LiarClocks$Reader", "at", "I", false)
  | _ => ("LiarClocks$Reader", "this$0", "LLiarClocks;", true)
def tyX3 : Nat → FieldType := fun k => match k with
  | 0 => .object "LiarClocks$House"
  | 1 => .boolean
  | 2 => .boolean
  | 3 => .int
  | _ => .object "LiarClocks"
abbrev wsX30 : List Cond := u_ws RX3 TX3 5
theorem nmX3 : ∀ a, a < 5 → ∀ b, b < 5 → a ≠ b → (TX3 a).2.1 ≠ (TX3 b).2.1 := by decide +kernel
theorem tyX3_ok : ∀ k, k < 5 → parseFieldDescriptor (TX3 k).2.2.1 = some (tyX3 k) := by decide +kernel
abbrev cX3_init : ByteArray := prog_5_method_1_code
def yX3_init : MethodName := ⟨RX3, "<init>", "(LLiarClocks;)V"⟩
def dkwX3_init_0 : List UInt8 := [42, 43, 181, 0, 3, 42, 183, 0, 9, 42, 187, 0, 15, 89, 183, 0, 17, 181, 0, 18, 177]
abbrev dktX3_init_0 : List UInt8 := dkwX3_init_0 ++ []
theorem dksX3_init_0 : cX3_init.data.toList.drop 0 = dktX3_init_0 := by decide +kernel
theorem dX3_init_0 : decode cX3_init 0 = .ok (.aload_n 0, 1) := dk_42 (dk_at dksX3_init_0 0 rfl rfl)
theorem dX3_init_1 : decode cX3_init 1 = .ok (.aload_n 1, 1) := dk_43 (dk_at dksX3_init_0 1 rfl rfl)
theorem dX3_init_2 : decode cX3_init 2 = .ok (.putfield 3, 3) := dk_181 0 3 (dk_at dksX3_init_0 2 rfl rfl)
theorem dX3_init_5 : decode cX3_init 5 = .ok (.aload_n 0, 1) := dk_42 (dk_at dksX3_init_0 5 rfl rfl)
theorem dX3_init_6 : decode cX3_init 6 = .ok (.invokespecial 9, 3) := dk_183 0 9 (dk_at dksX3_init_0 6 rfl rfl)
theorem dX3_init_9 : decode cX3_init 9 = .ok (.aload_n 0, 1) := dk_42 (dk_at dksX3_init_0 9 rfl rfl)
theorem dX3_init_10 : decode cX3_init 10 = .ok (.new 15, 3) := dk_187 0 15 (dk_at dksX3_init_0 10 rfl rfl)
theorem dX3_init_13 : decode cX3_init 13 = .ok (.dup, 1) := dk_89 (dk_at dksX3_init_0 13 rfl rfl)
theorem dX3_init_14 : decode cX3_init 14 = .ok (.invokespecial 17, 3) := dk_183 0 17 (dk_at dksX3_init_0 14 rfl rfl)
theorem dX3_init_17 : decode cX3_init 17 = .ok (.putfield 18, 3) := dk_181 0 18 (dk_at dksX3_init_0 17 rfl rfl)
theorem dX3_init_20 : decode cX3_init 20 = .ok (.return_, 1) := dk_177 (dk_at dksX3_init_0 20 rfl rfl)
abbrev cX3_all : ByteArray := prog_5_method_12_code
def yX3_all : MethodName := ⟨RX3, "all", "()V"⟩
def dkwX3_all_0 : List UInt8 := [42, 182, 0, 33, 155, 0, 10, 42, 182, 0, 122, 167, 255, 245, 177]
abbrev dktX3_all_0 : List UInt8 := dkwX3_all_0 ++ []
theorem dksX3_all_0 : cX3_all.data.toList.drop 0 = dktX3_all_0 := by decide +kernel
theorem dX3_all_0 : decode cX3_all 0 = .ok (.aload_n 0, 1) := dk_42 (dk_at dksX3_all_0 0 rfl rfl)
theorem dX3_all_1 : decode cX3_all 1 = .ok (.invokevirtual 33, 3) := dk_182 0 33 (dk_at dksX3_all_0 1 rfl rfl)
theorem dX3_all_4 : decode cX3_all 4 = .ok (.ifCond .lt 10, 3) := dk_155 0 10 (dk_at dksX3_all_0 4 rfl rfl)
theorem dX3_all_7 : decode cX3_all 7 = .ok (.aload_n 0, 1) := dk_42 (dk_at dksX3_all_0 7 rfl rfl)
theorem dX3_all_8 : decode cX3_all 8 = .ok (.invokevirtual 122, 3) := dk_182 0 122 (dk_at dksX3_all_0 8 rfl rfl)
theorem dX3_all_11 : decode cX3_all 11 = .ok (.goto (-11), 3) := dk_167 255 245 (dk_at dksX3_all_0 11 rfl rfl)
theorem dX3_all_14 : decode cX3_all 14 = .ok (.return_, 1) := dk_177 (dk_at dksX3_all_0 14 rfl rfl)
abbrev cX3_here : ByteArray := prog_5_method_2_code
def yX3_here : MethodName := ⟨RX3, "here", "()I"⟩
def dkwX3_here_3 : List UInt8 := [51, 17, 0, 255, 126, 167, 0, 4, 2, 172]
abbrev dktX3_here_3 : List UInt8 := dkwX3_here_3 ++ []
def dkwX3_here_2 : List UInt8 := [180, 0, 22, 42, 180, 0, 3, 180, 0, 26, 162, 0, 22, 42, 180, 0, 3, 180, 0, 29, 42, 180, 0, 22]
abbrev dktX3_here_2 : List UInt8 := dkwX3_here_2 ++ dktX3_here_3
def dkwX3_here_1 : List UInt8 := [180, 0, 22, 51, 16, 32, 160, 0, 16, 42, 89, 180, 0, 22, 4, 96, 181, 0, 22, 167, 255, 215, 42]
abbrev dktX3_here_1 : List UInt8 := dkwX3_here_1 ++ dktX3_here_2
def dkwX3_here_0 : List UInt8 := [42, 180, 0, 22, 42, 180, 0, 3, 180, 0, 26, 162, 0, 33, 42, 180, 0, 3, 180, 0, 29, 42]
abbrev dktX3_here_0 : List UInt8 := dkwX3_here_0 ++ dktX3_here_1
theorem dksX3_here_0 : cX3_here.data.toList.drop 0 = dktX3_here_0 := by decide +kernel
theorem dksX3_here_1 : cX3_here.data.toList.drop 22 = dktX3_here_1 := dk_seg dksX3_here_0 22 rfl rfl
theorem dksX3_here_2 : cX3_here.data.toList.drop 45 = dktX3_here_2 := dk_seg dksX3_here_1 23 rfl rfl
theorem dksX3_here_3 : cX3_here.data.toList.drop 69 = dktX3_here_3 := dk_seg dksX3_here_2 24 rfl rfl
theorem dX3_here_0 : decode cX3_here 0 = .ok (.aload_n 0, 1) := dk_42 (dk_at dksX3_here_0 0 rfl rfl)
theorem dX3_here_1 : decode cX3_here 1 = .ok (.getfield 22, 3) := dk_180 0 22 (dk_at dksX3_here_0 1 rfl rfl)
theorem dX3_here_4 : decode cX3_here 4 = .ok (.aload_n 0, 1) := dk_42 (dk_at dksX3_here_0 4 rfl rfl)
theorem dX3_here_5 : decode cX3_here 5 = .ok (.getfield 3, 3) := dk_180 0 3 (dk_at dksX3_here_0 5 rfl rfl)
theorem dX3_here_8 : decode cX3_here 8 = .ok (.getfield 26, 3) := dk_180 0 26 (dk_at dksX3_here_0 8 rfl rfl)
theorem dX3_here_11 : decode cX3_here 11 = .ok (.if_icmp .ge 33, 3) := dk_162 0 33 (dk_at dksX3_here_0 11 rfl rfl)
theorem dX3_here_14 : decode cX3_here 14 = .ok (.aload_n 0, 1) := dk_42 (dk_at dksX3_here_0 14 rfl rfl)
theorem dX3_here_15 : decode cX3_here 15 = .ok (.getfield 3, 3) := dk_180 0 3 (dk_at dksX3_here_0 15 rfl rfl)
theorem dX3_here_18 : decode cX3_here 18 = .ok (.getfield 29, 3) := dk_180 0 29 (dk_at dksX3_here_0 18 rfl rfl)
theorem dX3_here_21 : decode cX3_here 21 = .ok (.aload_n 0, 1) := dk_42 (dk_at dksX3_here_0 21 rfl rfl)
theorem dX3_here_22 : decode cX3_here 22 = .ok (.getfield 22, 3) := dk_180 0 22 (dk_at dksX3_here_1 0 rfl rfl)
theorem dX3_here_25 : decode cX3_here 25 = .ok (.baload, 1) := dk_51 (dk_at dksX3_here_1 3 rfl rfl)
theorem dX3_here_26 : decode cX3_here 26 = .ok (.bipush 32, 2) := dk_16 32 (dk_at dksX3_here_1 4 rfl rfl)
theorem dX3_here_28 : decode cX3_here 28 = .ok (.if_icmp .ne 16, 3) := dk_160 0 16 (dk_at dksX3_here_1 6 rfl rfl)
theorem dX3_here_31 : decode cX3_here 31 = .ok (.aload_n 0, 1) := dk_42 (dk_at dksX3_here_1 9 rfl rfl)
theorem dX3_here_32 : decode cX3_here 32 = .ok (.dup, 1) := dk_89 (dk_at dksX3_here_1 10 rfl rfl)
theorem dX3_here_33 : decode cX3_here 33 = .ok (.getfield 22, 3) := dk_180 0 22 (dk_at dksX3_here_1 11 rfl rfl)
theorem dX3_here_36 : decode cX3_here 36 = .ok (.iconst 1, 1) := dk_4 (dk_at dksX3_here_1 14 rfl rfl)
theorem dX3_here_37 : decode cX3_here 37 = .ok (.iadd, 1) := dk_96 (dk_at dksX3_here_1 15 rfl rfl)
theorem dX3_here_38 : decode cX3_here 38 = .ok (.putfield 22, 3) := dk_181 0 22 (dk_at dksX3_here_1 16 rfl rfl)
theorem dX3_here_41 : decode cX3_here 41 = .ok (.goto (-41), 3) := dk_167 255 215 (dk_at dksX3_here_1 19 rfl rfl)
theorem dX3_here_44 : decode cX3_here 44 = .ok (.aload_n 0, 1) := dk_42 (dk_at dksX3_here_1 22 rfl rfl)
theorem dX3_here_45 : decode cX3_here 45 = .ok (.getfield 22, 3) := dk_180 0 22 (dk_at dksX3_here_2 0 rfl rfl)
theorem dX3_here_48 : decode cX3_here 48 = .ok (.aload_n 0, 1) := dk_42 (dk_at dksX3_here_2 3 rfl rfl)
theorem dX3_here_49 : decode cX3_here 49 = .ok (.getfield 3, 3) := dk_180 0 3 (dk_at dksX3_here_2 4 rfl rfl)
theorem dX3_here_52 : decode cX3_here 52 = .ok (.getfield 26, 3) := dk_180 0 26 (dk_at dksX3_here_2 7 rfl rfl)
theorem dX3_here_55 : decode cX3_here 55 = .ok (.if_icmp .ge 22, 3) := dk_162 0 22 (dk_at dksX3_here_2 10 rfl rfl)
theorem dX3_here_58 : decode cX3_here 58 = .ok (.aload_n 0, 1) := dk_42 (dk_at dksX3_here_2 13 rfl rfl)
theorem dX3_here_59 : decode cX3_here 59 = .ok (.getfield 3, 3) := dk_180 0 3 (dk_at dksX3_here_2 14 rfl rfl)
theorem dX3_here_62 : decode cX3_here 62 = .ok (.getfield 29, 3) := dk_180 0 29 (dk_at dksX3_here_2 17 rfl rfl)
theorem dX3_here_65 : decode cX3_here 65 = .ok (.aload_n 0, 1) := dk_42 (dk_at dksX3_here_2 20 rfl rfl)
theorem dX3_here_66 : decode cX3_here 66 = .ok (.getfield 22, 3) := dk_180 0 22 (dk_at dksX3_here_2 21 rfl rfl)
theorem dX3_here_69 : decode cX3_here 69 = .ok (.baload, 1) := dk_51 (dk_at dksX3_here_3 0 rfl rfl)
theorem dX3_here_70 : decode cX3_here 70 = .ok (.sipush 255, 3) := dk_17 0 255 (dk_at dksX3_here_3 1 rfl rfl)
theorem dX3_here_73 : decode cX3_here 73 = .ok (.iand, 1) := dk_126 (dk_at dksX3_here_3 4 rfl rfl)
theorem dX3_here_74 : decode cX3_here 74 = .ok (.goto 4, 3) := dk_167 0 4 (dk_at dksX3_here_3 5 rfl rfl)
theorem dX3_here_77 : decode cX3_here 77 = .ok (.iconst (-1), 1) := dk_2 (dk_at dksX3_here_3 8 rfl rfl)
theorem dX3_here_78 : decode cX3_here 78 = .ok (.ireturn, 1) := dk_172 (dk_at dksX3_here_3 9 rfl rfl)
abbrev cX3_clause : ByteArray := prog_5_method_11_code
def yX3_clause : MethodName := ⟨RX3, "clause", "()V"⟩
def dkwX3_clause_5 : List UInt8 := [4, 96, 181, 0, 22, 177]
abbrev dktX3_clause_5 : List UInt8 := dkwX3_clause_5 ++ []
def dkwX3_clause_4 : List UInt8 := [182, 0, 33, 16, 59, 159, 0, 7, 4, 167, 0, 4, 3, 3, 3, 28, 182, 0, 78, 42, 89, 180, 0, 22]
abbrev dktX3_clause_4 : List UInt8 := dkwX3_clause_4 ++ dktX3_clause_5
def dkwX3_clause_3 : List UInt8 := [27, 182, 0, 119, 167, 0, 11, 42, 4, 3, 3, 27, 182, 0, 78, 42, 182, 0, 37, 61, 42, 42]
abbrev dktX3_clause_3 : List UInt8 := dkwX3_clause_3 ++ dktX3_clause_4
def dkwX3_clause_2 : List UInt8 := [42, 27, 182, 0, 109, 167, 0, 34, 42, 182, 0, 113, 167, 0, 27, 42, 27, 182, 0, 116, 167, 0, 19, 42]
abbrev dktX3_clause_2 : List UInt8 := dkwX3_clause_2 ++ dktX3_clause_3
def dkwX3_clause_1 : List UInt8 := [171, 0, 0, 0, 0, 0, 74, 0, 0, 0, 4, 0, 0, 0, 102, 0, 0, 0, 58, 0, 0, 0, 107, 0, 0, 0, 43, 0, 0, 0, 108, 0, 0, 0, 51, 0, 0, 0, 115, 0, 0, 0, 66]
abbrev dktX3_clause_1 : List UInt8 := dkwX3_clause_1 ++ dktX3_clause_2
def dkwX3_clause_0 : List UInt8 := [42, 182, 0, 37, 60, 42, 182, 0, 33]
abbrev dktX3_clause_0 : List UInt8 := dkwX3_clause_0 ++ dktX3_clause_1
theorem dksX3_clause_0 : cX3_clause.data.toList.drop 0 = dktX3_clause_0 := by decide +kernel
theorem dksX3_clause_1 : cX3_clause.data.toList.drop 9 = dktX3_clause_1 := dk_seg dksX3_clause_0 9 rfl rfl
theorem dksX3_clause_2 : cX3_clause.data.toList.drop 52 = dktX3_clause_2 := dk_seg dksX3_clause_1 43 rfl rfl
theorem dksX3_clause_3 : cX3_clause.data.toList.drop 76 = dktX3_clause_3 := dk_seg dksX3_clause_2 24 rfl rfl
theorem dksX3_clause_4 : cX3_clause.data.toList.drop 98 = dktX3_clause_4 := dk_seg dksX3_clause_3 22 rfl rfl
theorem dksX3_clause_5 : cX3_clause.data.toList.drop 122 = dktX3_clause_5 := dk_seg dksX3_clause_4 24 rfl rfl
theorem dX3_clause_0 : decode cX3_clause 0 = .ok (.aload_n 0, 1) := dk_42 (dk_at dksX3_clause_0 0 rfl rfl)
theorem dX3_clause_1 : decode cX3_clause 1 = .ok (.invokevirtual 37, 3) := dk_182 0 37 (dk_at dksX3_clause_0 1 rfl rfl)
theorem dX3_clause_4 : decode cX3_clause 4 = .ok (.istore_n 1, 1) := dk_60 (dk_at dksX3_clause_0 4 rfl rfl)
theorem dX3_clause_5 : decode cX3_clause 5 = .ok (.aload_n 0, 1) := dk_42 (dk_at dksX3_clause_0 5 rfl rfl)
theorem dX3_clause_6 : decode cX3_clause 6 = .ok (.invokevirtual 33, 3) := dk_182 0 33 (dk_at dksX3_clause_0 6 rfl rfl)
theorem dX3_clause_9 : decode cX3_clause 9 = .ok (.lookupswitch 74 #[(102, 58), (107, 43), (108, 51), (115, 66)], 43) := by decide +kernel
theorem dX3_clause_52 : decode cX3_clause 52 = .ok (.aload_n 0, 1) := dk_42 (dk_at dksX3_clause_2 0 rfl rfl)
theorem dX3_clause_53 : decode cX3_clause 53 = .ok (.iload_n 1, 1) := dk_27 (dk_at dksX3_clause_2 1 rfl rfl)
theorem dX3_clause_54 : decode cX3_clause 54 = .ok (.invokevirtual 109, 3) := dk_182 0 109 (dk_at dksX3_clause_2 2 rfl rfl)
theorem dX3_clause_57 : decode cX3_clause 57 = .ok (.goto 34, 3) := dk_167 0 34 (dk_at dksX3_clause_2 5 rfl rfl)
theorem dX3_clause_60 : decode cX3_clause 60 = .ok (.aload_n 0, 1) := dk_42 (dk_at dksX3_clause_2 8 rfl rfl)
theorem dX3_clause_61 : decode cX3_clause 61 = .ok (.invokevirtual 113, 3) := dk_182 0 113 (dk_at dksX3_clause_2 9 rfl rfl)
theorem dX3_clause_64 : decode cX3_clause 64 = .ok (.goto 27, 3) := dk_167 0 27 (dk_at dksX3_clause_2 12 rfl rfl)
theorem dX3_clause_67 : decode cX3_clause 67 = .ok (.aload_n 0, 1) := dk_42 (dk_at dksX3_clause_2 15 rfl rfl)
theorem dX3_clause_68 : decode cX3_clause 68 = .ok (.iload_n 1, 1) := dk_27 (dk_at dksX3_clause_2 16 rfl rfl)
theorem dX3_clause_69 : decode cX3_clause 69 = .ok (.invokevirtual 116, 3) := dk_182 0 116 (dk_at dksX3_clause_2 17 rfl rfl)
theorem dX3_clause_72 : decode cX3_clause 72 = .ok (.goto 19, 3) := dk_167 0 19 (dk_at dksX3_clause_2 20 rfl rfl)
theorem dX3_clause_75 : decode cX3_clause 75 = .ok (.aload_n 0, 1) := dk_42 (dk_at dksX3_clause_2 23 rfl rfl)
theorem dX3_clause_76 : decode cX3_clause 76 = .ok (.iload_n 1, 1) := dk_27 (dk_at dksX3_clause_3 0 rfl rfl)
theorem dX3_clause_77 : decode cX3_clause 77 = .ok (.invokevirtual 119, 3) := dk_182 0 119 (dk_at dksX3_clause_3 1 rfl rfl)
theorem dX3_clause_80 : decode cX3_clause 80 = .ok (.goto 11, 3) := dk_167 0 11 (dk_at dksX3_clause_3 4 rfl rfl)
theorem dX3_clause_83 : decode cX3_clause 83 = .ok (.aload_n 0, 1) := dk_42 (dk_at dksX3_clause_3 7 rfl rfl)
theorem dX3_clause_84 : decode cX3_clause 84 = .ok (.iconst 1, 1) := dk_4 (dk_at dksX3_clause_3 8 rfl rfl)
theorem dX3_clause_85 : decode cX3_clause 85 = .ok (.iconst 0, 1) := dk_3 (dk_at dksX3_clause_3 9 rfl rfl)
theorem dX3_clause_86 : decode cX3_clause 86 = .ok (.iconst 0, 1) := dk_3 (dk_at dksX3_clause_3 10 rfl rfl)
theorem dX3_clause_87 : decode cX3_clause 87 = .ok (.iload_n 1, 1) := dk_27 (dk_at dksX3_clause_3 11 rfl rfl)
theorem dX3_clause_88 : decode cX3_clause 88 = .ok (.invokevirtual 78, 3) := dk_182 0 78 (dk_at dksX3_clause_3 12 rfl rfl)
theorem dX3_clause_91 : decode cX3_clause 91 = .ok (.aload_n 0, 1) := dk_42 (dk_at dksX3_clause_3 15 rfl rfl)
theorem dX3_clause_92 : decode cX3_clause 92 = .ok (.invokevirtual 37, 3) := dk_182 0 37 (dk_at dksX3_clause_3 16 rfl rfl)
theorem dX3_clause_95 : decode cX3_clause 95 = .ok (.istore_n 2, 1) := dk_61 (dk_at dksX3_clause_3 19 rfl rfl)
theorem dX3_clause_96 : decode cX3_clause 96 = .ok (.aload_n 0, 1) := dk_42 (dk_at dksX3_clause_3 20 rfl rfl)
theorem dX3_clause_97 : decode cX3_clause 97 = .ok (.aload_n 0, 1) := dk_42 (dk_at dksX3_clause_3 21 rfl rfl)
theorem dX3_clause_98 : decode cX3_clause 98 = .ok (.invokevirtual 33, 3) := dk_182 0 33 (dk_at dksX3_clause_4 0 rfl rfl)
theorem dX3_clause_101 : decode cX3_clause 101 = .ok (.bipush 59, 2) := dk_16 59 (dk_at dksX3_clause_4 3 rfl rfl)
theorem dX3_clause_103 : decode cX3_clause 103 = .ok (.if_icmp .eq 7, 3) := dk_159 0 7 (dk_at dksX3_clause_4 5 rfl rfl)
theorem dX3_clause_106 : decode cX3_clause 106 = .ok (.iconst 1, 1) := dk_4 (dk_at dksX3_clause_4 8 rfl rfl)
theorem dX3_clause_107 : decode cX3_clause 107 = .ok (.goto 4, 3) := dk_167 0 4 (dk_at dksX3_clause_4 9 rfl rfl)
theorem dX3_clause_110 : decode cX3_clause 110 = .ok (.iconst 0, 1) := dk_3 (dk_at dksX3_clause_4 12 rfl rfl)
theorem dX3_clause_111 : decode cX3_clause 111 = .ok (.iconst 0, 1) := dk_3 (dk_at dksX3_clause_4 13 rfl rfl)
theorem dX3_clause_112 : decode cX3_clause 112 = .ok (.iconst 0, 1) := dk_3 (dk_at dksX3_clause_4 14 rfl rfl)
theorem dX3_clause_113 : decode cX3_clause 113 = .ok (.iload_n 2, 1) := dk_28 (dk_at dksX3_clause_4 15 rfl rfl)
theorem dX3_clause_114 : decode cX3_clause 114 = .ok (.invokevirtual 78, 3) := dk_182 0 78 (dk_at dksX3_clause_4 16 rfl rfl)
theorem dX3_clause_117 : decode cX3_clause 117 = .ok (.aload_n 0, 1) := dk_42 (dk_at dksX3_clause_4 19 rfl rfl)
theorem dX3_clause_118 : decode cX3_clause 118 = .ok (.dup, 1) := dk_89 (dk_at dksX3_clause_4 20 rfl rfl)
theorem dX3_clause_119 : decode cX3_clause 119 = .ok (.getfield 22, 3) := dk_180 0 22 (dk_at dksX3_clause_4 21 rfl rfl)
theorem dX3_clause_122 : decode cX3_clause 122 = .ok (.iconst 1, 1) := dk_4 (dk_at dksX3_clause_5 0 rfl rfl)
theorem dX3_clause_123 : decode cX3_clause 123 = .ok (.iadd, 1) := dk_96 (dk_at dksX3_clause_5 1 rfl rfl)
theorem dX3_clause_124 : decode cX3_clause 124 = .ok (.putfield 22, 3) := dk_181 0 22 (dk_at dksX3_clause_5 2 rfl rfl)
theorem dX3_clause_127 : decode cX3_clause 127 = .ok (.return_, 1) := dk_177 (dk_at dksX3_clause_5 5 rfl rfl)
abbrev cX3_place : ByteArray := prog_5_method_3_code
def yX3_place : MethodName := ⟨RX3, "place", "()I"⟩
def dkwX3_place_0 : List UInt8 := [42, 182, 0, 33, 60, 27, 156, 0, 13, 42, 180, 0, 3, 180, 0, 26, 167, 0, 7, 42, 180, 0, 22, 172]
abbrev dktX3_place_0 : List UInt8 := dkwX3_place_0 ++ []
theorem dksX3_place_0 : cX3_place.data.toList.drop 0 = dktX3_place_0 := by decide +kernel
theorem dX3_place_0 : decode cX3_place 0 = .ok (.aload_n 0, 1) := dk_42 (dk_at dksX3_place_0 0 rfl rfl)
theorem dX3_place_1 : decode cX3_place 1 = .ok (.invokevirtual 33, 3) := dk_182 0 33 (dk_at dksX3_place_0 1 rfl rfl)
theorem dX3_place_4 : decode cX3_place 4 = .ok (.istore_n 1, 1) := dk_60 (dk_at dksX3_place_0 4 rfl rfl)
theorem dX3_place_5 : decode cX3_place 5 = .ok (.iload_n 1, 1) := dk_27 (dk_at dksX3_place_0 5 rfl rfl)
theorem dX3_place_6 : decode cX3_place 6 = .ok (.ifCond .ge 13, 3) := dk_156 0 13 (dk_at dksX3_place_0 6 rfl rfl)
theorem dX3_place_9 : decode cX3_place 9 = .ok (.aload_n 0, 1) := dk_42 (dk_at dksX3_place_0 9 rfl rfl)
theorem dX3_place_10 : decode cX3_place 10 = .ok (.getfield 3, 3) := dk_180 0 3 (dk_at dksX3_place_0 10 rfl rfl)
theorem dX3_place_13 : decode cX3_place 13 = .ok (.getfield 26, 3) := dk_180 0 26 (dk_at dksX3_place_0 13 rfl rfl)
theorem dX3_place_16 : decode cX3_place 16 = .ok (.goto 7, 3) := dk_167 0 7 (dk_at dksX3_place_0 16 rfl rfl)
theorem dX3_place_19 : decode cX3_place 19 = .ok (.aload_n 0, 1) := dk_42 (dk_at dksX3_place_0 19 rfl rfl)
theorem dX3_place_20 : decode cX3_place 20 = .ok (.getfield 22, 3) := dk_180 0 22 (dk_at dksX3_place_0 20 rfl rfl)
theorem dX3_place_23 : decode cX3_place 23 = .ok (.ireturn, 1) := dk_172 (dk_at dksX3_place_0 23 rfl rfl)
abbrev cX3_readClock : ByteArray := prog_5_method_7_code
def yX3_readClock : MethodName := ⟨RX3, "readClock", "(I)V"⟩
def dkwX3_readClock_3 : List UInt8 := [16, 110, 182, 0, 86, 79, 42, 180, 0, 18, 89, 180, 0, 75, 4, 96, 181, 0, 75, 177]
abbrev dktX3_readClock_3 : List UInt8 := dkwX3_readClock_3 ++ []
def dkwX3_readClock_2 : List UInt8 := [180, 0, 82, 28, 42, 3, 17, 39, 15, 182, 0, 86, 79, 42, 180, 0, 18, 180, 0, 89, 28, 42, 16, 90]
abbrev dktX3_readClock_2 : List UInt8 := dkwX3_readClock_2 ++ dktX3_readClock_3
def dkwX3_readClock_1 : List UInt8 := [42, 89, 180, 0, 22, 4, 96, 181, 0, 22, 42, 180, 0, 18, 180, 0, 75, 61, 42, 180, 0, 18]
abbrev dktX3_readClock_1 : List UInt8 := dkwX3_readClock_1 ++ dktX3_readClock_2
def dkwX3_readClock_0 : List UInt8 := [42, 3, 42, 180, 0, 18, 180, 0, 75, 16, 8, 160, 0, 7, 4, 167, 0, 4, 3, 3, 27, 182, 0, 78]
abbrev dktX3_readClock_0 : List UInt8 := dkwX3_readClock_0 ++ dktX3_readClock_1
theorem dksX3_readClock_0 : cX3_readClock.data.toList.drop 0 = dktX3_readClock_0 := by decide +kernel
theorem dksX3_readClock_1 : cX3_readClock.data.toList.drop 24 = dktX3_readClock_1 := dk_seg dksX3_readClock_0 24 rfl rfl
theorem dksX3_readClock_2 : cX3_readClock.data.toList.drop 46 = dktX3_readClock_2 := dk_seg dksX3_readClock_1 22 rfl rfl
theorem dksX3_readClock_3 : cX3_readClock.data.toList.drop 70 = dktX3_readClock_3 := dk_seg dksX3_readClock_2 24 rfl rfl
theorem dX3_readClock_0 : decode cX3_readClock 0 = .ok (.aload_n 0, 1) := dk_42 (dk_at dksX3_readClock_0 0 rfl rfl)
theorem dX3_readClock_1 : decode cX3_readClock 1 = .ok (.iconst 0, 1) := dk_3 (dk_at dksX3_readClock_0 1 rfl rfl)
theorem dX3_readClock_2 : decode cX3_readClock 2 = .ok (.aload_n 0, 1) := dk_42 (dk_at dksX3_readClock_0 2 rfl rfl)
theorem dX3_readClock_3 : decode cX3_readClock 3 = .ok (.getfield 18, 3) := dk_180 0 18 (dk_at dksX3_readClock_0 3 rfl rfl)
theorem dX3_readClock_6 : decode cX3_readClock 6 = .ok (.getfield 75, 3) := dk_180 0 75 (dk_at dksX3_readClock_0 6 rfl rfl)
theorem dX3_readClock_9 : decode cX3_readClock 9 = .ok (.bipush 8, 2) := dk_16 8 (dk_at dksX3_readClock_0 9 rfl rfl)
theorem dX3_readClock_11 : decode cX3_readClock 11 = .ok (.if_icmp .ne 7, 3) := dk_160 0 7 (dk_at dksX3_readClock_0 11 rfl rfl)
theorem dX3_readClock_14 : decode cX3_readClock 14 = .ok (.iconst 1, 1) := dk_4 (dk_at dksX3_readClock_0 14 rfl rfl)
theorem dX3_readClock_15 : decode cX3_readClock 15 = .ok (.goto 4, 3) := dk_167 0 4 (dk_at dksX3_readClock_0 15 rfl rfl)
theorem dX3_readClock_18 : decode cX3_readClock 18 = .ok (.iconst 0, 1) := dk_3 (dk_at dksX3_readClock_0 18 rfl rfl)
theorem dX3_readClock_19 : decode cX3_readClock 19 = .ok (.iconst 0, 1) := dk_3 (dk_at dksX3_readClock_0 19 rfl rfl)
theorem dX3_readClock_20 : decode cX3_readClock 20 = .ok (.iload_n 1, 1) := dk_27 (dk_at dksX3_readClock_0 20 rfl rfl)
theorem dX3_readClock_21 : decode cX3_readClock 21 = .ok (.invokevirtual 78, 3) := dk_182 0 78 (dk_at dksX3_readClock_0 21 rfl rfl)
theorem dX3_readClock_24 : decode cX3_readClock 24 = .ok (.aload_n 0, 1) := dk_42 (dk_at dksX3_readClock_1 0 rfl rfl)
theorem dX3_readClock_25 : decode cX3_readClock 25 = .ok (.dup, 1) := dk_89 (dk_at dksX3_readClock_1 1 rfl rfl)
theorem dX3_readClock_26 : decode cX3_readClock 26 = .ok (.getfield 22, 3) := dk_180 0 22 (dk_at dksX3_readClock_1 2 rfl rfl)
theorem dX3_readClock_29 : decode cX3_readClock 29 = .ok (.iconst 1, 1) := dk_4 (dk_at dksX3_readClock_1 5 rfl rfl)
theorem dX3_readClock_30 : decode cX3_readClock 30 = .ok (.iadd, 1) := dk_96 (dk_at dksX3_readClock_1 6 rfl rfl)
theorem dX3_readClock_31 : decode cX3_readClock 31 = .ok (.putfield 22, 3) := dk_181 0 22 (dk_at dksX3_readClock_1 7 rfl rfl)
theorem dX3_readClock_34 : decode cX3_readClock 34 = .ok (.aload_n 0, 1) := dk_42 (dk_at dksX3_readClock_1 10 rfl rfl)
theorem dX3_readClock_35 : decode cX3_readClock 35 = .ok (.getfield 18, 3) := dk_180 0 18 (dk_at dksX3_readClock_1 11 rfl rfl)
theorem dX3_readClock_38 : decode cX3_readClock 38 = .ok (.getfield 75, 3) := dk_180 0 75 (dk_at dksX3_readClock_1 14 rfl rfl)
theorem dX3_readClock_41 : decode cX3_readClock 41 = .ok (.istore_n 2, 1) := dk_61 (dk_at dksX3_readClock_1 17 rfl rfl)
theorem dX3_readClock_42 : decode cX3_readClock 42 = .ok (.aload_n 0, 1) := dk_42 (dk_at dksX3_readClock_1 18 rfl rfl)
theorem dX3_readClock_43 : decode cX3_readClock 43 = .ok (.getfield 18, 3) := dk_180 0 18 (dk_at dksX3_readClock_1 19 rfl rfl)
theorem dX3_readClock_46 : decode cX3_readClock 46 = .ok (.getfield 82, 3) := dk_180 0 82 (dk_at dksX3_readClock_2 0 rfl rfl)
theorem dX3_readClock_49 : decode cX3_readClock 49 = .ok (.iload_n 2, 1) := dk_28 (dk_at dksX3_readClock_2 3 rfl rfl)
theorem dX3_readClock_50 : decode cX3_readClock 50 = .ok (.aload_n 0, 1) := dk_42 (dk_at dksX3_readClock_2 4 rfl rfl)
theorem dX3_readClock_51 : decode cX3_readClock 51 = .ok (.iconst 0, 1) := dk_3 (dk_at dksX3_readClock_2 5 rfl rfl)
theorem dX3_readClock_52 : decode cX3_readClock 52 = .ok (.sipush 9999, 3) := dk_17 39 15 (dk_at dksX3_readClock_2 6 rfl rfl)
theorem dX3_readClock_55 : decode cX3_readClock 55 = .ok (.invokevirtual 86, 3) := dk_182 0 86 (dk_at dksX3_readClock_2 9 rfl rfl)
theorem dX3_readClock_58 : decode cX3_readClock 58 = .ok (.iastore, 1) := dk_79 (dk_at dksX3_readClock_2 12 rfl rfl)
theorem dX3_readClock_59 : decode cX3_readClock 59 = .ok (.aload_n 0, 1) := dk_42 (dk_at dksX3_readClock_2 13 rfl rfl)
theorem dX3_readClock_60 : decode cX3_readClock 60 = .ok (.getfield 18, 3) := dk_180 0 18 (dk_at dksX3_readClock_2 14 rfl rfl)
theorem dX3_readClock_63 : decode cX3_readClock 63 = .ok (.getfield 89, 3) := dk_180 0 89 (dk_at dksX3_readClock_2 17 rfl rfl)
theorem dX3_readClock_66 : decode cX3_readClock 66 = .ok (.iload_n 2, 1) := dk_28 (dk_at dksX3_readClock_2 20 rfl rfl)
theorem dX3_readClock_67 : decode cX3_readClock 67 = .ok (.aload_n 0, 1) := dk_42 (dk_at dksX3_readClock_2 21 rfl rfl)
theorem dX3_readClock_68 : decode cX3_readClock 68 = .ok (.bipush 90, 2) := dk_16 90 (dk_at dksX3_readClock_2 22 rfl rfl)
theorem dX3_readClock_70 : decode cX3_readClock 70 = .ok (.bipush 110, 2) := dk_16 110 (dk_at dksX3_readClock_3 0 rfl rfl)
theorem dX3_readClock_72 : decode cX3_readClock 72 = .ok (.invokevirtual 86, 3) := dk_182 0 86 (dk_at dksX3_readClock_3 2 rfl rfl)
theorem dX3_readClock_75 : decode cX3_readClock 75 = .ok (.iastore, 1) := dk_79 (dk_at dksX3_readClock_3 5 rfl rfl)
theorem dX3_readClock_76 : decode cX3_readClock 76 = .ok (.aload_n 0, 1) := dk_42 (dk_at dksX3_readClock_3 6 rfl rfl)
theorem dX3_readClock_77 : decode cX3_readClock 77 = .ok (.getfield 18, 3) := dk_180 0 18 (dk_at dksX3_readClock_3 7 rfl rfl)
theorem dX3_readClock_80 : decode cX3_readClock 80 = .ok (.dup, 1) := dk_89 (dk_at dksX3_readClock_3 10 rfl rfl)
theorem dX3_readClock_81 : decode cX3_readClock 81 = .ok (.getfield 75, 3) := dk_180 0 75 (dk_at dksX3_readClock_3 11 rfl rfl)
theorem dX3_readClock_84 : decode cX3_readClock 84 = .ok (.iconst 1, 1) := dk_4 (dk_at dksX3_readClock_3 14 rfl rfl)
theorem dX3_readClock_85 : decode cX3_readClock 85 = .ok (.iadd, 1) := dk_96 (dk_at dksX3_readClock_3 15 rfl rfl)
theorem dX3_readClock_86 : decode cX3_readClock 86 = .ok (.putfield 75, 3) := dk_181 0 75 (dk_at dksX3_readClock_3 16 rfl rfl)
theorem dX3_readClock_89 : decode cX3_readClock 89 = .ok (.return_, 1) := dk_177 (dk_at dksX3_readClock_3 19 rfl rfl)
abbrev cX3_check : ByteArray := prog_5_method_6_code
def yX3_check : MethodName := ⟨RX3, "check", "(ZZZI)V"⟩
def dkwX3_check_2 : List UInt8 := [25, 5, 183, 0, 66, 191, 177]
abbrev dktX3_check_2 : List UInt8 := dkwX3_check_2 ++ []
def dkwX3_check_1 : List UInt8 := [29, 153, 0, 11, 187, 0, 72, 89, 183, 0, 74, 191, 167, 0, 17, 58, 5, 187, 0, 64, 89, 21, 4]
abbrev dktX3_check_1 : List UInt8 := dkwX3_check_1 ++ dktX3_check_2
def dkwX3_check_0 : List UInt8 := [27, 153, 0, 11, 187, 0, 55, 89, 183, 0, 57, 191, 28, 153, 0, 11, 187, 0, 69, 89, 183, 0, 71, 191]
abbrev dktX3_check_0 : List UInt8 := dkwX3_check_0 ++ dktX3_check_1
theorem dksX3_check_0 : cX3_check.data.toList.drop 0 = dktX3_check_0 := by decide +kernel
theorem dksX3_check_1 : cX3_check.data.toList.drop 24 = dktX3_check_1 := dk_seg dksX3_check_0 24 rfl rfl
theorem dksX3_check_2 : cX3_check.data.toList.drop 47 = dktX3_check_2 := dk_seg dksX3_check_1 23 rfl rfl
theorem dX3_check_0 : decode cX3_check 0 = .ok (.iload_n 1, 1) := dk_27 (dk_at dksX3_check_0 0 rfl rfl)
theorem dX3_check_1 : decode cX3_check 1 = .ok (.ifCond .eq 11, 3) := dk_153 0 11 (dk_at dksX3_check_0 1 rfl rfl)
theorem dX3_check_4 : decode cX3_check 4 = .ok (.new 55, 3) := dk_187 0 55 (dk_at dksX3_check_0 4 rfl rfl)
theorem dX3_check_7 : decode cX3_check 7 = .ok (.dup, 1) := dk_89 (dk_at dksX3_check_0 7 rfl rfl)
theorem dX3_check_8 : decode cX3_check 8 = .ok (.invokespecial 57, 3) := dk_183 0 57 (dk_at dksX3_check_0 8 rfl rfl)
theorem dX3_check_11 : decode cX3_check 11 = .ok (.athrow, 1) := dk_191 (dk_at dksX3_check_0 11 rfl rfl)
theorem dX3_check_12 : decode cX3_check 12 = .ok (.iload_n 2, 1) := dk_28 (dk_at dksX3_check_0 12 rfl rfl)
theorem dX3_check_13 : decode cX3_check 13 = .ok (.ifCond .eq 11, 3) := dk_153 0 11 (dk_at dksX3_check_0 13 rfl rfl)
theorem dX3_check_16 : decode cX3_check 16 = .ok (.new 69, 3) := dk_187 0 69 (dk_at dksX3_check_0 16 rfl rfl)
theorem dX3_check_19 : decode cX3_check 19 = .ok (.dup, 1) := dk_89 (dk_at dksX3_check_0 19 rfl rfl)
theorem dX3_check_20 : decode cX3_check 20 = .ok (.invokespecial 71, 3) := dk_183 0 71 (dk_at dksX3_check_0 20 rfl rfl)
theorem dX3_check_23 : decode cX3_check 23 = .ok (.athrow, 1) := dk_191 (dk_at dksX3_check_0 23 rfl rfl)
theorem dX3_check_24 : decode cX3_check 24 = .ok (.iload_n 3, 1) := dk_29 (dk_at dksX3_check_1 0 rfl rfl)
theorem dX3_check_25 : decode cX3_check 25 = .ok (.ifCond .eq 11, 3) := dk_153 0 11 (dk_at dksX3_check_1 1 rfl rfl)
theorem dX3_check_28 : decode cX3_check 28 = .ok (.new 72, 3) := dk_187 0 72 (dk_at dksX3_check_1 4 rfl rfl)
theorem dX3_check_31 : decode cX3_check 31 = .ok (.dup, 1) := dk_89 (dk_at dksX3_check_1 7 rfl rfl)
theorem dX3_check_32 : decode cX3_check 32 = .ok (.invokespecial 74, 3) := dk_183 0 74 (dk_at dksX3_check_1 8 rfl rfl)
theorem dX3_check_35 : decode cX3_check 35 = .ok (.athrow, 1) := dk_191 (dk_at dksX3_check_1 11 rfl rfl)
theorem dX3_check_36 : decode cX3_check 36 = .ok (.goto 17, 3) := dk_167 0 17 (dk_at dksX3_check_1 12 rfl rfl)
theorem dX3_check_39 : decode cX3_check 39 = .ok (.astore 5, 2) := dk_58 5 (dk_at dksX3_check_1 15 rfl rfl)
theorem dX3_check_41 : decode cX3_check 41 = .ok (.new 64, 3) := dk_187 0 64 (dk_at dksX3_check_1 17 rfl rfl)
theorem dX3_check_44 : decode cX3_check 44 = .ok (.dup, 1) := dk_89 (dk_at dksX3_check_1 20 rfl rfl)
theorem dX3_check_45 : decode cX3_check 45 = .ok (.iload 4, 2) := dk_21 4 (dk_at dksX3_check_1 21 rfl rfl)
theorem dX3_check_47 : decode cX3_check 47 = .ok (.aload 5, 2) := dk_25 5 (dk_at dksX3_check_2 0 rfl rfl)
theorem dX3_check_49 : decode cX3_check 49 = .ok (.invokespecial 66, 3) := dk_183 0 66 (dk_at dksX3_check_2 2 rfl rfl)
theorem dX3_check_52 : decode cX3_check 52 = .ok (.athrow, 1) := dk_191 (dk_at dksX3_check_2 5 rfl rfl)
theorem dX3_check_53 : decode cX3_check 53 = .ok (.return_, 1) := dk_177 (dk_at dksX3_check_2 6 rfl rfl)
abbrev cX3_numberIn : ByteArray := prog_5_method_5_code
def yX3_numberIn : MethodName := ⟨RX3, "numberIn", "(II)I"⟩
def dkwX3_numberIn_1 : List UInt8 := [187, 0, 58, 89, 183, 0, 60, 191, 21, 4, 172, 58, 4, 187, 0, 64, 89, 29, 25, 4, 183, 0, 66, 191]
abbrev dktX3_numberIn_1 : List UInt8 := dkwX3_numberIn_1 ++ []
def dkwX3_numberIn_0 : List UInt8 := [42, 182, 0, 37, 62, 42, 182, 0, 61, 54, 4, 21, 4, 133, 27, 133, 28, 133, 184, 0, 44, 154, 0, 11]
abbrev dktX3_numberIn_0 : List UInt8 := dkwX3_numberIn_0 ++ dktX3_numberIn_1
theorem dksX3_numberIn_0 : cX3_numberIn.data.toList.drop 0 = dktX3_numberIn_0 := by decide +kernel
theorem dksX3_numberIn_1 : cX3_numberIn.data.toList.drop 24 = dktX3_numberIn_1 := dk_seg dksX3_numberIn_0 24 rfl rfl
theorem dX3_numberIn_0 : decode cX3_numberIn 0 = .ok (.aload_n 0, 1) := dk_42 (dk_at dksX3_numberIn_0 0 rfl rfl)
theorem dX3_numberIn_1 : decode cX3_numberIn 1 = .ok (.invokevirtual 37, 3) := dk_182 0 37 (dk_at dksX3_numberIn_0 1 rfl rfl)
theorem dX3_numberIn_4 : decode cX3_numberIn 4 = .ok (.istore_n 3, 1) := dk_62 (dk_at dksX3_numberIn_0 4 rfl rfl)
theorem dX3_numberIn_5 : decode cX3_numberIn 5 = .ok (.aload_n 0, 1) := dk_42 (dk_at dksX3_numberIn_0 5 rfl rfl)
theorem dX3_numberIn_6 : decode cX3_numberIn 6 = .ok (.invokevirtual 61, 3) := dk_182 0 61 (dk_at dksX3_numberIn_0 6 rfl rfl)
theorem dX3_numberIn_9 : decode cX3_numberIn 9 = .ok (.istore 4, 2) := dk_54 4 (dk_at dksX3_numberIn_0 9 rfl rfl)
theorem dX3_numberIn_11 : decode cX3_numberIn 11 = .ok (.iload 4, 2) := dk_21 4 (dk_at dksX3_numberIn_0 11 rfl rfl)
theorem dX3_numberIn_13 : decode cX3_numberIn 13 = .ok (.i2l, 1) := dk_133 (dk_at dksX3_numberIn_0 13 rfl rfl)
theorem dX3_numberIn_14 : decode cX3_numberIn 14 = .ok (.iload_n 1, 1) := dk_27 (dk_at dksX3_numberIn_0 14 rfl rfl)
theorem dX3_numberIn_15 : decode cX3_numberIn 15 = .ok (.i2l, 1) := dk_133 (dk_at dksX3_numberIn_0 15 rfl rfl)
theorem dX3_numberIn_16 : decode cX3_numberIn 16 = .ok (.iload_n 2, 1) := dk_28 (dk_at dksX3_numberIn_0 16 rfl rfl)
theorem dX3_numberIn_17 : decode cX3_numberIn 17 = .ok (.i2l, 1) := dk_133 (dk_at dksX3_numberIn_0 17 rfl rfl)
theorem dX3_numberIn_18 : decode cX3_numberIn 18 = .ok (.invokestatic 44, 3) := dk_184 0 44 (dk_at dksX3_numberIn_0 18 rfl rfl)
theorem dX3_numberIn_21 : decode cX3_numberIn 21 = .ok (.ifCond .ne 11, 3) := dk_154 0 11 (dk_at dksX3_numberIn_0 21 rfl rfl)
theorem dX3_numberIn_24 : decode cX3_numberIn 24 = .ok (.new 58, 3) := dk_187 0 58 (dk_at dksX3_numberIn_1 0 rfl rfl)
theorem dX3_numberIn_27 : decode cX3_numberIn 27 = .ok (.dup, 1) := dk_89 (dk_at dksX3_numberIn_1 3 rfl rfl)
theorem dX3_numberIn_28 : decode cX3_numberIn 28 = .ok (.invokespecial 60, 3) := dk_183 0 60 (dk_at dksX3_numberIn_1 4 rfl rfl)
theorem dX3_numberIn_31 : decode cX3_numberIn 31 = .ok (.athrow, 1) := dk_191 (dk_at dksX3_numberIn_1 7 rfl rfl)
theorem dX3_numberIn_32 : decode cX3_numberIn 32 = .ok (.iload 4, 2) := dk_21 4 (dk_at dksX3_numberIn_1 8 rfl rfl)
theorem dX3_numberIn_34 : decode cX3_numberIn 34 = .ok (.ireturn, 1) := dk_172 (dk_at dksX3_numberIn_1 10 rfl rfl)
theorem dX3_numberIn_35 : decode cX3_numberIn 35 = .ok (.astore 4, 2) := dk_58 4 (dk_at dksX3_numberIn_1 11 rfl rfl)
theorem dX3_numberIn_37 : decode cX3_numberIn 37 = .ok (.new 64, 3) := dk_187 0 64 (dk_at dksX3_numberIn_1 13 rfl rfl)
theorem dX3_numberIn_40 : decode cX3_numberIn 40 = .ok (.dup, 1) := dk_89 (dk_at dksX3_numberIn_1 16 rfl rfl)
theorem dX3_numberIn_41 : decode cX3_numberIn 41 = .ok (.iload_n 3, 1) := dk_29 (dk_at dksX3_numberIn_1 17 rfl rfl)
theorem dX3_numberIn_42 : decode cX3_numberIn 42 = .ok (.aload 4, 2) := dk_25 4 (dk_at dksX3_numberIn_1 18 rfl rfl)
theorem dX3_numberIn_44 : decode cX3_numberIn 44 = .ok (.invokespecial 66, 3) := dk_183 0 66 (dk_at dksX3_numberIn_1 20 rfl rfl)
theorem dX3_numberIn_47 : decode cX3_numberIn 47 = .ok (.athrow, 1) := dk_191 (dk_at dksX3_numberIn_1 23 rfl rfl)
abbrev cX3_number : ByteArray := prog_5_method_4_code
def yX3_number : MethodName := ⟨RX3, "number", "()I"⟩
def dkwX3_number_5 : List UInt8 := [89, 183, 0, 60, 191, 28, 172]
abbrev dktX3_number_5 : List UInt8 := dkwX3_number_5 ++ []
def dkwX3_number_4 : List UInt8 := [160, 0, 11, 187, 0, 55, 89, 183, 0, 57, 191, 42, 180, 0, 22, 27, 100, 7, 164, 0, 11, 187, 0, 58]
abbrev dktX3_number_4 : List UInt8 := dkwX3_number_4 ++ dktX3_number_5
def dkwX3_number_3 : List UInt8 := [184, 0, 49, 61, 42, 89, 180, 0, 22, 4, 96, 181, 0, 22, 167, 255, 181, 42, 180, 0, 22, 27]
abbrev dktX3_number_3 : List UInt8 := dkwX3_number_3 ++ dktX3_number_4
def dkwX3_number_2 : List UInt8 := [18, 48, 16, 10, 28, 104, 42, 180, 0, 3, 180, 0, 29, 42, 180, 0, 22, 51, 96, 16, 48, 100]
abbrev dktX3_number_2 : List UInt8 := dkwX3_number_2 ++ dktX3_number_3
def dkwX3_number_1 : List UInt8 := [180, 0, 3, 180, 0, 29, 42, 180, 0, 22, 51, 133, 20, 0, 40, 20, 0, 42, 184, 0, 44, 153, 0, 42]
abbrev dktX3_number_1 : List UInt8 := dkwX3_number_1 ++ dktX3_number_2
def dkwX3_number_0 : List UInt8 := [42, 182, 0, 37, 60, 3, 61, 42, 180, 0, 22, 42, 180, 0, 3, 180, 0, 26, 162, 0, 67, 42]
abbrev dktX3_number_0 : List UInt8 := dkwX3_number_0 ++ dktX3_number_1
theorem dksX3_number_0 : cX3_number.data.toList.drop 0 = dktX3_number_0 := by decide +kernel
theorem dksX3_number_1 : cX3_number.data.toList.drop 22 = dktX3_number_1 := dk_seg dksX3_number_0 22 rfl rfl
theorem dksX3_number_2 : cX3_number.data.toList.drop 46 = dktX3_number_2 := dk_seg dksX3_number_1 24 rfl rfl
theorem dksX3_number_3 : cX3_number.data.toList.drop 68 = dktX3_number_3 := dk_seg dksX3_number_2 22 rfl rfl
theorem dksX3_number_4 : cX3_number.data.toList.drop 90 = dktX3_number_4 := dk_seg dksX3_number_3 22 rfl rfl
theorem dksX3_number_5 : cX3_number.data.toList.drop 114 = dktX3_number_5 := dk_seg dksX3_number_4 24 rfl rfl
theorem dX3_number_0 : decode cX3_number 0 = .ok (.aload_n 0, 1) := dk_42 (dk_at dksX3_number_0 0 rfl rfl)
theorem dX3_number_1 : decode cX3_number 1 = .ok (.invokevirtual 37, 3) := dk_182 0 37 (dk_at dksX3_number_0 1 rfl rfl)
theorem dX3_number_4 : decode cX3_number 4 = .ok (.istore_n 1, 1) := dk_60 (dk_at dksX3_number_0 4 rfl rfl)
theorem dX3_number_5 : decode cX3_number 5 = .ok (.iconst 0, 1) := dk_3 (dk_at dksX3_number_0 5 rfl rfl)
theorem dX3_number_6 : decode cX3_number 6 = .ok (.istore_n 2, 1) := dk_61 (dk_at dksX3_number_0 6 rfl rfl)
theorem dX3_number_7 : decode cX3_number 7 = .ok (.aload_n 0, 1) := dk_42 (dk_at dksX3_number_0 7 rfl rfl)
theorem dX3_number_8 : decode cX3_number 8 = .ok (.getfield 22, 3) := dk_180 0 22 (dk_at dksX3_number_0 8 rfl rfl)
theorem dX3_number_11 : decode cX3_number 11 = .ok (.aload_n 0, 1) := dk_42 (dk_at dksX3_number_0 11 rfl rfl)
theorem dX3_number_12 : decode cX3_number 12 = .ok (.getfield 3, 3) := dk_180 0 3 (dk_at dksX3_number_0 12 rfl rfl)
theorem dX3_number_15 : decode cX3_number 15 = .ok (.getfield 26, 3) := dk_180 0 26 (dk_at dksX3_number_0 15 rfl rfl)
theorem dX3_number_18 : decode cX3_number 18 = .ok (.if_icmp .ge 67, 3) := dk_162 0 67 (dk_at dksX3_number_0 18 rfl rfl)
theorem dX3_number_21 : decode cX3_number 21 = .ok (.aload_n 0, 1) := dk_42 (dk_at dksX3_number_0 21 rfl rfl)
theorem dX3_number_22 : decode cX3_number 22 = .ok (.getfield 3, 3) := dk_180 0 3 (dk_at dksX3_number_1 0 rfl rfl)
theorem dX3_number_25 : decode cX3_number 25 = .ok (.getfield 29, 3) := dk_180 0 29 (dk_at dksX3_number_1 3 rfl rfl)
theorem dX3_number_28 : decode cX3_number 28 = .ok (.aload_n 0, 1) := dk_42 (dk_at dksX3_number_1 6 rfl rfl)
theorem dX3_number_29 : decode cX3_number 29 = .ok (.getfield 22, 3) := dk_180 0 22 (dk_at dksX3_number_1 7 rfl rfl)
theorem dX3_number_32 : decode cX3_number 32 = .ok (.baload, 1) := dk_51 (dk_at dksX3_number_1 10 rfl rfl)
theorem dX3_number_33 : decode cX3_number 33 = .ok (.i2l, 1) := dk_133 (dk_at dksX3_number_1 11 rfl rfl)
theorem dX3_number_34 : decode cX3_number 34 = .ok (.ldc2_w 40, 3) := dk_20 0 40 (dk_at dksX3_number_1 12 rfl rfl)
theorem dX3_number_37 : decode cX3_number 37 = .ok (.ldc2_w 42, 3) := dk_20 0 42 (dk_at dksX3_number_1 15 rfl rfl)
theorem dX3_number_40 : decode cX3_number 40 = .ok (.invokestatic 44, 3) := dk_184 0 44 (dk_at dksX3_number_1 18 rfl rfl)
theorem dX3_number_43 : decode cX3_number 43 = .ok (.ifCond .eq 42, 3) := dk_153 0 42 (dk_at dksX3_number_1 21 rfl rfl)
theorem dX3_number_46 : decode cX3_number 46 = .ok (.ldc 48, 2) := dk_18 48 (dk_at dksX3_number_2 0 rfl rfl)
theorem dX3_number_48 : decode cX3_number 48 = .ok (.bipush 10, 2) := dk_16 10 (dk_at dksX3_number_2 2 rfl rfl)
theorem dX3_number_50 : decode cX3_number 50 = .ok (.iload_n 2, 1) := dk_28 (dk_at dksX3_number_2 4 rfl rfl)
theorem dX3_number_51 : decode cX3_number 51 = .ok (.imul, 1) := dk_104 (dk_at dksX3_number_2 5 rfl rfl)
theorem dX3_number_52 : decode cX3_number 52 = .ok (.aload_n 0, 1) := dk_42 (dk_at dksX3_number_2 6 rfl rfl)
theorem dX3_number_53 : decode cX3_number 53 = .ok (.getfield 3, 3) := dk_180 0 3 (dk_at dksX3_number_2 7 rfl rfl)
theorem dX3_number_56 : decode cX3_number 56 = .ok (.getfield 29, 3) := dk_180 0 29 (dk_at dksX3_number_2 10 rfl rfl)
theorem dX3_number_59 : decode cX3_number 59 = .ok (.aload_n 0, 1) := dk_42 (dk_at dksX3_number_2 13 rfl rfl)
theorem dX3_number_60 : decode cX3_number 60 = .ok (.getfield 22, 3) := dk_180 0 22 (dk_at dksX3_number_2 14 rfl rfl)
theorem dX3_number_63 : decode cX3_number 63 = .ok (.baload, 1) := dk_51 (dk_at dksX3_number_2 17 rfl rfl)
theorem dX3_number_64 : decode cX3_number 64 = .ok (.iadd, 1) := dk_96 (dk_at dksX3_number_2 18 rfl rfl)
theorem dX3_number_65 : decode cX3_number 65 = .ok (.bipush 48, 2) := dk_16 48 (dk_at dksX3_number_2 19 rfl rfl)
theorem dX3_number_67 : decode cX3_number 67 = .ok (.isub, 1) := dk_100 (dk_at dksX3_number_2 21 rfl rfl)
theorem dX3_number_68 : decode cX3_number 68 = .ok (.invokestatic 49, 3) := dk_184 0 49 (dk_at dksX3_number_3 0 rfl rfl)
theorem dX3_number_71 : decode cX3_number 71 = .ok (.istore_n 2, 1) := dk_61 (dk_at dksX3_number_3 3 rfl rfl)
theorem dX3_number_72 : decode cX3_number 72 = .ok (.aload_n 0, 1) := dk_42 (dk_at dksX3_number_3 4 rfl rfl)
theorem dX3_number_73 : decode cX3_number 73 = .ok (.dup, 1) := dk_89 (dk_at dksX3_number_3 5 rfl rfl)
theorem dX3_number_74 : decode cX3_number 74 = .ok (.getfield 22, 3) := dk_180 0 22 (dk_at dksX3_number_3 6 rfl rfl)
theorem dX3_number_77 : decode cX3_number 77 = .ok (.iconst 1, 1) := dk_4 (dk_at dksX3_number_3 9 rfl rfl)
theorem dX3_number_78 : decode cX3_number 78 = .ok (.iadd, 1) := dk_96 (dk_at dksX3_number_3 10 rfl rfl)
theorem dX3_number_79 : decode cX3_number 79 = .ok (.putfield 22, 3) := dk_181 0 22 (dk_at dksX3_number_3 11 rfl rfl)
theorem dX3_number_82 : decode cX3_number 82 = .ok (.goto (-75), 3) := dk_167 255 181 (dk_at dksX3_number_3 14 rfl rfl)
theorem dX3_number_85 : decode cX3_number 85 = .ok (.aload_n 0, 1) := dk_42 (dk_at dksX3_number_3 17 rfl rfl)
theorem dX3_number_86 : decode cX3_number 86 = .ok (.getfield 22, 3) := dk_180 0 22 (dk_at dksX3_number_3 18 rfl rfl)
theorem dX3_number_89 : decode cX3_number 89 = .ok (.iload_n 1, 1) := dk_27 (dk_at dksX3_number_3 21 rfl rfl)
theorem dX3_number_90 : decode cX3_number 90 = .ok (.if_icmp .ne 11, 3) := dk_160 0 11 (dk_at dksX3_number_4 0 rfl rfl)
theorem dX3_number_93 : decode cX3_number 93 = .ok (.new 55, 3) := dk_187 0 55 (dk_at dksX3_number_4 3 rfl rfl)
theorem dX3_number_96 : decode cX3_number 96 = .ok (.dup, 1) := dk_89 (dk_at dksX3_number_4 6 rfl rfl)
theorem dX3_number_97 : decode cX3_number 97 = .ok (.invokespecial 57, 3) := dk_183 0 57 (dk_at dksX3_number_4 7 rfl rfl)
theorem dX3_number_100 : decode cX3_number 100 = .ok (.athrow, 1) := dk_191 (dk_at dksX3_number_4 10 rfl rfl)
theorem dX3_number_101 : decode cX3_number 101 = .ok (.aload_n 0, 1) := dk_42 (dk_at dksX3_number_4 11 rfl rfl)
theorem dX3_number_102 : decode cX3_number 102 = .ok (.getfield 22, 3) := dk_180 0 22 (dk_at dksX3_number_4 12 rfl rfl)
theorem dX3_number_105 : decode cX3_number 105 = .ok (.iload_n 1, 1) := dk_27 (dk_at dksX3_number_4 15 rfl rfl)
theorem dX3_number_106 : decode cX3_number 106 = .ok (.isub, 1) := dk_100 (dk_at dksX3_number_4 16 rfl rfl)
theorem dX3_number_107 : decode cX3_number 107 = .ok (.iconst 4, 1) := dk_7 (dk_at dksX3_number_4 17 rfl rfl)
theorem dX3_number_108 : decode cX3_number 108 = .ok (.if_icmp .le 11, 3) := dk_164 0 11 (dk_at dksX3_number_4 18 rfl rfl)
theorem dX3_number_111 : decode cX3_number 111 = .ok (.new 58, 3) := dk_187 0 58 (dk_at dksX3_number_4 21 rfl rfl)
theorem dX3_number_114 : decode cX3_number 114 = .ok (.dup, 1) := dk_89 (dk_at dksX3_number_5 0 rfl rfl)
theorem dX3_number_115 : decode cX3_number 115 = .ok (.invokespecial 60, 3) := dk_183 0 60 (dk_at dksX3_number_5 1 rfl rfl)
theorem dX3_number_118 : decode cX3_number 118 = .ok (.athrow, 1) := dk_191 (dk_at dksX3_number_5 4 rfl rfl)
theorem dX3_number_119 : decode cX3_number 119 = .ok (.iload_n 2, 1) := dk_28 (dk_at dksX3_number_5 5 rfl rfl)
theorem dX3_number_120 : decode cX3_number 120 = .ok (.ireturn, 1) := dk_172 (dk_at dksX3_number_5 6 rfl rfl)
abbrev cX3_readLiar : ByteArray := prog_5_method_8_code
def yX3_readLiar : MethodName := ⟨RX3, "readLiar", "()V"⟩
def dkwX3_readLiar_2 : List UInt8 := [180, 0, 18, 180, 0, 92, 28, 4, 84, 177]
abbrev dktX3_readLiar_2 : List UInt8 := dkwX3_readLiar_2 ++ []
def dkwX3_readLiar_1 : List UInt8 := [4, 100, 182, 0, 86, 61, 42, 3, 3, 42, 180, 0, 18, 180, 0, 92, 28, 51, 27, 182, 0, 78, 42]
abbrev dktX3_readLiar_1 : List UInt8 := dkwX3_readLiar_1 ++ dktX3_readLiar_2
def dkwX3_readLiar_0 : List UInt8 := [42, 89, 180, 0, 22, 4, 96, 181, 0, 22, 42, 182, 0, 37, 60, 42, 3, 42, 180, 0, 18, 180, 0, 75]
abbrev dktX3_readLiar_0 : List UInt8 := dkwX3_readLiar_0 ++ dktX3_readLiar_1
theorem dksX3_readLiar_0 : cX3_readLiar.data.toList.drop 0 = dktX3_readLiar_0 := by decide +kernel
theorem dksX3_readLiar_1 : cX3_readLiar.data.toList.drop 24 = dktX3_readLiar_1 := dk_seg dksX3_readLiar_0 24 rfl rfl
theorem dksX3_readLiar_2 : cX3_readLiar.data.toList.drop 47 = dktX3_readLiar_2 := dk_seg dksX3_readLiar_1 23 rfl rfl
theorem dX3_readLiar_0 : decode cX3_readLiar 0 = .ok (.aload_n 0, 1) := dk_42 (dk_at dksX3_readLiar_0 0 rfl rfl)
theorem dX3_readLiar_1 : decode cX3_readLiar 1 = .ok (.dup, 1) := dk_89 (dk_at dksX3_readLiar_0 1 rfl rfl)
theorem dX3_readLiar_2 : decode cX3_readLiar 2 = .ok (.getfield 22, 3) := dk_180 0 22 (dk_at dksX3_readLiar_0 2 rfl rfl)
theorem dX3_readLiar_5 : decode cX3_readLiar 5 = .ok (.iconst 1, 1) := dk_4 (dk_at dksX3_readLiar_0 5 rfl rfl)
theorem dX3_readLiar_6 : decode cX3_readLiar 6 = .ok (.iadd, 1) := dk_96 (dk_at dksX3_readLiar_0 6 rfl rfl)
theorem dX3_readLiar_7 : decode cX3_readLiar 7 = .ok (.putfield 22, 3) := dk_181 0 22 (dk_at dksX3_readLiar_0 7 rfl rfl)
theorem dX3_readLiar_10 : decode cX3_readLiar 10 = .ok (.aload_n 0, 1) := dk_42 (dk_at dksX3_readLiar_0 10 rfl rfl)
theorem dX3_readLiar_11 : decode cX3_readLiar 11 = .ok (.invokevirtual 37, 3) := dk_182 0 37 (dk_at dksX3_readLiar_0 11 rfl rfl)
theorem dX3_readLiar_14 : decode cX3_readLiar 14 = .ok (.istore_n 1, 1) := dk_60 (dk_at dksX3_readLiar_0 14 rfl rfl)
theorem dX3_readLiar_15 : decode cX3_readLiar 15 = .ok (.aload_n 0, 1) := dk_42 (dk_at dksX3_readLiar_0 15 rfl rfl)
theorem dX3_readLiar_16 : decode cX3_readLiar 16 = .ok (.iconst 0, 1) := dk_3 (dk_at dksX3_readLiar_0 16 rfl rfl)
theorem dX3_readLiar_17 : decode cX3_readLiar 17 = .ok (.aload_n 0, 1) := dk_42 (dk_at dksX3_readLiar_0 17 rfl rfl)
theorem dX3_readLiar_18 : decode cX3_readLiar 18 = .ok (.getfield 18, 3) := dk_180 0 18 (dk_at dksX3_readLiar_0 18 rfl rfl)
theorem dX3_readLiar_21 : decode cX3_readLiar 21 = .ok (.getfield 75, 3) := dk_180 0 75 (dk_at dksX3_readLiar_0 21 rfl rfl)
theorem dX3_readLiar_24 : decode cX3_readLiar 24 = .ok (.iconst 1, 1) := dk_4 (dk_at dksX3_readLiar_1 0 rfl rfl)
theorem dX3_readLiar_25 : decode cX3_readLiar 25 = .ok (.isub, 1) := dk_100 (dk_at dksX3_readLiar_1 1 rfl rfl)
theorem dX3_readLiar_26 : decode cX3_readLiar 26 = .ok (.invokevirtual 86, 3) := dk_182 0 86 (dk_at dksX3_readLiar_1 2 rfl rfl)
theorem dX3_readLiar_29 : decode cX3_readLiar 29 = .ok (.istore_n 2, 1) := dk_61 (dk_at dksX3_readLiar_1 5 rfl rfl)
theorem dX3_readLiar_30 : decode cX3_readLiar 30 = .ok (.aload_n 0, 1) := dk_42 (dk_at dksX3_readLiar_1 6 rfl rfl)
theorem dX3_readLiar_31 : decode cX3_readLiar 31 = .ok (.iconst 0, 1) := dk_3 (dk_at dksX3_readLiar_1 7 rfl rfl)
theorem dX3_readLiar_32 : decode cX3_readLiar 32 = .ok (.iconst 0, 1) := dk_3 (dk_at dksX3_readLiar_1 8 rfl rfl)
theorem dX3_readLiar_33 : decode cX3_readLiar 33 = .ok (.aload_n 0, 1) := dk_42 (dk_at dksX3_readLiar_1 9 rfl rfl)
theorem dX3_readLiar_34 : decode cX3_readLiar 34 = .ok (.getfield 18, 3) := dk_180 0 18 (dk_at dksX3_readLiar_1 10 rfl rfl)
theorem dX3_readLiar_37 : decode cX3_readLiar 37 = .ok (.getfield 92, 3) := dk_180 0 92 (dk_at dksX3_readLiar_1 13 rfl rfl)
theorem dX3_readLiar_40 : decode cX3_readLiar 40 = .ok (.iload_n 2, 1) := dk_28 (dk_at dksX3_readLiar_1 16 rfl rfl)
theorem dX3_readLiar_41 : decode cX3_readLiar 41 = .ok (.baload, 1) := dk_51 (dk_at dksX3_readLiar_1 17 rfl rfl)
theorem dX3_readLiar_42 : decode cX3_readLiar 42 = .ok (.iload_n 1, 1) := dk_27 (dk_at dksX3_readLiar_1 18 rfl rfl)
theorem dX3_readLiar_43 : decode cX3_readLiar 43 = .ok (.invokevirtual 78, 3) := dk_182 0 78 (dk_at dksX3_readLiar_1 19 rfl rfl)
theorem dX3_readLiar_46 : decode cX3_readLiar 46 = .ok (.aload_n 0, 1) := dk_42 (dk_at dksX3_readLiar_1 22 rfl rfl)
theorem dX3_readLiar_47 : decode cX3_readLiar 47 = .ok (.getfield 18, 3) := dk_180 0 18 (dk_at dksX3_readLiar_2 0 rfl rfl)
theorem dX3_readLiar_50 : decode cX3_readLiar 50 = .ok (.getfield 92, 3) := dk_180 0 92 (dk_at dksX3_readLiar_2 3 rfl rfl)
theorem dX3_readLiar_53 : decode cX3_readLiar 53 = .ok (.iload_n 2, 1) := dk_28 (dk_at dksX3_readLiar_2 6 rfl rfl)
theorem dX3_readLiar_54 : decode cX3_readLiar 54 = .ok (.iconst 1, 1) := dk_4 (dk_at dksX3_readLiar_2 7 rfl rfl)
theorem dX3_readLiar_55 : decode cX3_readLiar 55 = .ok (.bastore, 1) := dk_84 (dk_at dksX3_readLiar_2 8 rfl rfl)
theorem dX3_readLiar_56 : decode cX3_readLiar 56 = .ok (.return_, 1) := dk_177 (dk_at dksX3_readLiar_2 9 rfl rfl)
abbrev cX3_readStrike : ByteArray := prog_5_method_9_code
def yX3_readStrike : MethodName := ⟨RX3, "readStrike", "(I)V"⟩
def dkwX3_readStrike_1 : List UInt8 := [181, 0, 96, 42, 180, 0, 18, 42, 3, 6, 182, 0, 86, 181, 0, 100, 177]
abbrev dktX3_readStrike_1 : List UInt8 := dkwX3_readStrike_1 ++ []
def dkwX3_readStrike_0 : List UInt8 := [42, 3, 3, 42, 180, 0, 96, 27, 182, 0, 78, 42, 89, 180, 0, 22, 4, 96, 181, 0, 22, 42, 4]
abbrev dktX3_readStrike_0 : List UInt8 := dkwX3_readStrike_0 ++ dktX3_readStrike_1
theorem dksX3_readStrike_0 : cX3_readStrike.data.toList.drop 0 = dktX3_readStrike_0 := by decide +kernel
theorem dksX3_readStrike_1 : cX3_readStrike.data.toList.drop 23 = dktX3_readStrike_1 := dk_seg dksX3_readStrike_0 23 rfl rfl
theorem dX3_readStrike_0 : decode cX3_readStrike 0 = .ok (.aload_n 0, 1) := dk_42 (dk_at dksX3_readStrike_0 0 rfl rfl)
theorem dX3_readStrike_1 : decode cX3_readStrike 1 = .ok (.iconst 0, 1) := dk_3 (dk_at dksX3_readStrike_0 1 rfl rfl)
theorem dX3_readStrike_2 : decode cX3_readStrike 2 = .ok (.iconst 0, 1) := dk_3 (dk_at dksX3_readStrike_0 2 rfl rfl)
theorem dX3_readStrike_3 : decode cX3_readStrike 3 = .ok (.aload_n 0, 1) := dk_42 (dk_at dksX3_readStrike_0 3 rfl rfl)
theorem dX3_readStrike_4 : decode cX3_readStrike 4 = .ok (.getfield 96, 3) := dk_180 0 96 (dk_at dksX3_readStrike_0 4 rfl rfl)
theorem dX3_readStrike_7 : decode cX3_readStrike 7 = .ok (.iload_n 1, 1) := dk_27 (dk_at dksX3_readStrike_0 7 rfl rfl)
theorem dX3_readStrike_8 : decode cX3_readStrike 8 = .ok (.invokevirtual 78, 3) := dk_182 0 78 (dk_at dksX3_readStrike_0 8 rfl rfl)
theorem dX3_readStrike_11 : decode cX3_readStrike 11 = .ok (.aload_n 0, 1) := dk_42 (dk_at dksX3_readStrike_0 11 rfl rfl)
theorem dX3_readStrike_12 : decode cX3_readStrike 12 = .ok (.dup, 1) := dk_89 (dk_at dksX3_readStrike_0 12 rfl rfl)
theorem dX3_readStrike_13 : decode cX3_readStrike 13 = .ok (.getfield 22, 3) := dk_180 0 22 (dk_at dksX3_readStrike_0 13 rfl rfl)
theorem dX3_readStrike_16 : decode cX3_readStrike 16 = .ok (.iconst 1, 1) := dk_4 (dk_at dksX3_readStrike_0 16 rfl rfl)
theorem dX3_readStrike_17 : decode cX3_readStrike 17 = .ok (.iadd, 1) := dk_96 (dk_at dksX3_readStrike_0 17 rfl rfl)
theorem dX3_readStrike_18 : decode cX3_readStrike 18 = .ok (.putfield 22, 3) := dk_181 0 22 (dk_at dksX3_readStrike_0 18 rfl rfl)
theorem dX3_readStrike_21 : decode cX3_readStrike 21 = .ok (.aload_n 0, 1) := dk_42 (dk_at dksX3_readStrike_0 21 rfl rfl)
theorem dX3_readStrike_22 : decode cX3_readStrike 22 = .ok (.iconst 1, 1) := dk_4 (dk_at dksX3_readStrike_0 22 rfl rfl)
theorem dX3_readStrike_23 : decode cX3_readStrike 23 = .ok (.putfield 96, 3) := dk_181 0 96 (dk_at dksX3_readStrike_1 0 rfl rfl)
theorem dX3_readStrike_26 : decode cX3_readStrike 26 = .ok (.aload_n 0, 1) := dk_42 (dk_at dksX3_readStrike_1 3 rfl rfl)
theorem dX3_readStrike_27 : decode cX3_readStrike 27 = .ok (.getfield 18, 3) := dk_180 0 18 (dk_at dksX3_readStrike_1 4 rfl rfl)
theorem dX3_readStrike_30 : decode cX3_readStrike 30 = .ok (.aload_n 0, 1) := dk_42 (dk_at dksX3_readStrike_1 7 rfl rfl)
theorem dX3_readStrike_31 : decode cX3_readStrike 31 = .ok (.iconst 0, 1) := dk_3 (dk_at dksX3_readStrike_1 8 rfl rfl)
theorem dX3_readStrike_32 : decode cX3_readStrike 32 = .ok (.iconst 3, 1) := dk_6 (dk_at dksX3_readStrike_1 9 rfl rfl)
theorem dX3_readStrike_33 : decode cX3_readStrike 33 = .ok (.invokevirtual 86, 3) := dk_182 0 86 (dk_at dksX3_readStrike_1 10 rfl rfl)
theorem dX3_readStrike_36 : decode cX3_readStrike 36 = .ok (.putfield 100, 3) := dk_181 0 100 (dk_at dksX3_readStrike_1 13 rfl rfl)
theorem dX3_readStrike_39 : decode cX3_readStrike 39 = .ok (.return_, 1) := dk_177 (dk_at dksX3_readStrike_1 16 rfl rfl)
abbrev cX3_readStep : ByteArray := prog_5_method_10_code
def yX3_readStep : MethodName := ⟨RX3, "readStep", "(I)V"⟩
def dkwX3_readStep_1 : List UInt8 := [181, 0, 103, 42, 180, 0, 18, 42, 3, 16, 80, 182, 0, 86, 181, 0, 106, 177]
abbrev dktX3_readStep_1 : List UInt8 := dkwX3_readStep_1 ++ []
def dkwX3_readStep_0 : List UInt8 := [42, 3, 3, 42, 180, 0, 103, 27, 182, 0, 78, 42, 89, 180, 0, 22, 4, 96, 181, 0, 22, 42, 4]
abbrev dktX3_readStep_0 : List UInt8 := dkwX3_readStep_0 ++ dktX3_readStep_1
theorem dksX3_readStep_0 : cX3_readStep.data.toList.drop 0 = dktX3_readStep_0 := by decide +kernel
theorem dksX3_readStep_1 : cX3_readStep.data.toList.drop 23 = dktX3_readStep_1 := dk_seg dksX3_readStep_0 23 rfl rfl
theorem dX3_readStep_0 : decode cX3_readStep 0 = .ok (.aload_n 0, 1) := dk_42 (dk_at dksX3_readStep_0 0 rfl rfl)
theorem dX3_readStep_1 : decode cX3_readStep 1 = .ok (.iconst 0, 1) := dk_3 (dk_at dksX3_readStep_0 1 rfl rfl)
theorem dX3_readStep_2 : decode cX3_readStep 2 = .ok (.iconst 0, 1) := dk_3 (dk_at dksX3_readStep_0 2 rfl rfl)
theorem dX3_readStep_3 : decode cX3_readStep 3 = .ok (.aload_n 0, 1) := dk_42 (dk_at dksX3_readStep_0 3 rfl rfl)
theorem dX3_readStep_4 : decode cX3_readStep 4 = .ok (.getfield 103, 3) := dk_180 0 103 (dk_at dksX3_readStep_0 4 rfl rfl)
theorem dX3_readStep_7 : decode cX3_readStep 7 = .ok (.iload_n 1, 1) := dk_27 (dk_at dksX3_readStep_0 7 rfl rfl)
theorem dX3_readStep_8 : decode cX3_readStep 8 = .ok (.invokevirtual 78, 3) := dk_182 0 78 (dk_at dksX3_readStep_0 8 rfl rfl)
theorem dX3_readStep_11 : decode cX3_readStep 11 = .ok (.aload_n 0, 1) := dk_42 (dk_at dksX3_readStep_0 11 rfl rfl)
theorem dX3_readStep_12 : decode cX3_readStep 12 = .ok (.dup, 1) := dk_89 (dk_at dksX3_readStep_0 12 rfl rfl)
theorem dX3_readStep_13 : decode cX3_readStep 13 = .ok (.getfield 22, 3) := dk_180 0 22 (dk_at dksX3_readStep_0 13 rfl rfl)
theorem dX3_readStep_16 : decode cX3_readStep 16 = .ok (.iconst 1, 1) := dk_4 (dk_at dksX3_readStep_0 16 rfl rfl)
theorem dX3_readStep_17 : decode cX3_readStep 17 = .ok (.iadd, 1) := dk_96 (dk_at dksX3_readStep_0 17 rfl rfl)
theorem dX3_readStep_18 : decode cX3_readStep 18 = .ok (.putfield 22, 3) := dk_181 0 22 (dk_at dksX3_readStep_0 18 rfl rfl)
theorem dX3_readStep_21 : decode cX3_readStep 21 = .ok (.aload_n 0, 1) := dk_42 (dk_at dksX3_readStep_0 21 rfl rfl)
theorem dX3_readStep_22 : decode cX3_readStep 22 = .ok (.iconst 1, 1) := dk_4 (dk_at dksX3_readStep_0 22 rfl rfl)
theorem dX3_readStep_23 : decode cX3_readStep 23 = .ok (.putfield 103, 3) := dk_181 0 103 (dk_at dksX3_readStep_1 0 rfl rfl)
theorem dX3_readStep_26 : decode cX3_readStep 26 = .ok (.aload_n 0, 1) := dk_42 (dk_at dksX3_readStep_1 3 rfl rfl)
theorem dX3_readStep_27 : decode cX3_readStep 27 = .ok (.getfield 18, 3) := dk_180 0 18 (dk_at dksX3_readStep_1 4 rfl rfl)
theorem dX3_readStep_30 : decode cX3_readStep 30 = .ok (.aload_n 0, 1) := dk_42 (dk_at dksX3_readStep_1 7 rfl rfl)
theorem dX3_readStep_31 : decode cX3_readStep 31 = .ok (.iconst 0, 1) := dk_3 (dk_at dksX3_readStep_1 8 rfl rfl)
theorem dX3_readStep_32 : decode cX3_readStep 32 = .ok (.bipush 80, 2) := dk_16 80 (dk_at dksX3_readStep_1 9 rfl rfl)
theorem dX3_readStep_34 : decode cX3_readStep 34 = .ok (.invokevirtual 86, 3) := dk_182 0 86 (dk_at dksX3_readStep_1 11 rfl rfl)
theorem dX3_readStep_37 : decode cX3_readStep 37 = .ok (.putfield 106, 3) := dk_181 0 106 (dk_at dksX3_readStep_1 14 rfl rfl)
theorem dX3_readStep_40 : decode cX3_readStep 40 = .ok (.return_, 1) := dk_177 (dk_at dksX3_readStep_1 17 rfl rfl)
theorem q72 : (Jvm.Cond.initialized "LiarClocks$Reader") ∈ lw_all := lw_g (lw_at lw_m1 4 rfl) rfl
theorem q106 : (Jvm.Cond.instantiable "LiarClocks$Reader" (5 : Nat)) ∈ lw_all := lw_g (lw_at lw_m1 38 rfl) rfl
theorem q108 : (Jvm.Cond.instanceMethod ({ cls := "LiarClocks$Reader", name := "<init>", desc := "(LLiarClocks;)V" } : Jvm.MethodName)) ∈ lw_all := lw_g (lw_at lw_m1 40 rfl) rfl
theorem q109 : (Jvm.Cond.code ({ cls := "LiarClocks$Reader", name := "<init>", desc := "(LLiarClocks;)V" } : Jvm.MethodName) prog_5_method_1_code (2 : Nat) (Option.none : Option Jvm.ClassFile.FieldType)) ∈ lw_all := lw_g (lw_at lw_m1 41 rfl) rfl
theorem q110 : (Jvm.Cond.methodLink "LiarClocks$Reader" (9 : Nat) ({ cls := "java/lang/Object", name := "<init>", desc := "()V" } : Jvm.MethodName)) ∈ lw_all := lw_g (lw_at lw_m1 42 rfl) rfl
theorem q113 : (Jvm.Cond.classLink "LiarClocks$Reader" (15 : Nat) "LiarClocks$House") ∈ lw_all := lw_g (lw_at lw_m1 45 rfl) rfl
theorem q115 : (Jvm.Cond.methodLinkNest "LiarClocks$Reader" (17 : Nat) ({ cls := "LiarClocks$House", name := "<init>", desc := "()V" } : Jvm.MethodName) "LiarClocks") ∈ lw_tbl := lw_at lw_m1 47 rfl
theorem q121 : (Jvm.Cond.fieldLinkNest "LiarClocks$Reader" (75 : Nat) "LiarClocks$House" "many" "I" "LiarClocks") ∈ lw_tbl := lw_at lw_m1 53 rfl
theorem q124 : (Jvm.Cond.fieldLinkNest "LiarClocks$Reader" (100 : Nat) "LiarClocks$House" "strike" "I" "LiarClocks") ∈ lw_tbl := lw_at lw_m1 56 rfl
theorem q126 : (Jvm.Cond.fieldLinkNest "LiarClocks$Reader" (106 : Nat) "LiarClocks$House" "step" "I" "LiarClocks") ∈ lw_tbl := lw_at lw_m1 58 rfl
theorem q130 : (Jvm.Cond.fieldLinkNest "LiarClocks$Reader" (82 : Nat) "LiarClocks$House" "values" "[I" "LiarClocks") ∈ lw_tbl := lw_at lw_m1 62 rfl
theorem q132 : (Jvm.Cond.fieldLinkNest "LiarClocks$Reader" (89 : Nat) "LiarClocks$House" "rates" "[I" "LiarClocks") ∈ lw_tbl := lw_at lw_m1 64 rfl
theorem q138 : (Jvm.Cond.fieldLinkNest "LiarClocks$Reader" (92 : Nat) "LiarClocks$House" "lies" "[Z" "LiarClocks") ∈ lw_tbl := lw_at lw_m1 70 rfl
theorem q188 : (Jvm.Cond.fieldLink "LiarClocks$Reader" (18 : Nat) "LiarClocks$Reader" "read" "LLiarClocks$House;") ∈ lw_all := lw_g (lw_at lw_m1 120 rfl) rfl
theorem q190 : (Jvm.Cond.fieldLink "LiarClocks$Reader" (96 : Nat) "LiarClocks$Reader" "hasStrike" "Z") ∈ lw_all := lw_g (lw_at lw_m1 122 rfl) rfl
theorem q191 : (Jvm.Cond.fieldLink "LiarClocks$Reader" (103 : Nat) "LiarClocks$Reader" "hasStep" "Z") ∈ lw_all := lw_g (lw_at lw_m1 123 rfl) rfl
theorem q192 : (Jvm.Cond.fieldLink "LiarClocks$Reader" (22 : Nat) "LiarClocks$Reader" "at" "I") ∈ lw_all := lw_g (lw_at lw_m1 124 rfl) rfl
theorem q193 : (Jvm.Cond.fieldLink "LiarClocks$Reader" (3 : Nat) "LiarClocks$Reader" "this$0" "LLiarClocks;") ∈ lw_all := lw_g (lw_at lw_m1 125 rfl) rfl
theorem q194 : (Jvm.Cond.laysFinal "LiarClocks$Reader" "LiarClocks$Reader" "read" "LLiarClocks$House;") ∈ lw_all := lw_g (lw_at lw_m1 126 rfl) rfl
theorem q195 : (Jvm.Cond.soleField "LiarClocks$Reader" "read") ∈ lw_all := lw_g (lw_at lw_m1 127 rfl) rfl
theorem q196 : (Jvm.Cond.lays "LiarClocks$Reader" "LiarClocks$Reader" "hasStrike" "Z") ∈ lw_all := lw_g (lw_at lw_m1 128 rfl) rfl
theorem q197 : (Jvm.Cond.soleField "LiarClocks$Reader" "hasStrike") ∈ lw_all := lw_g (lw_at lw_m1 129 rfl) rfl
theorem q198 : (Jvm.Cond.lays "LiarClocks$Reader" "LiarClocks$Reader" "hasStep" "Z") ∈ lw_all := lw_g (lw_at lw_m1 130 rfl) rfl
theorem q199 : (Jvm.Cond.soleField "LiarClocks$Reader" "hasStep") ∈ lw_all := lw_g (lw_at lw_m1 131 rfl) rfl
theorem q200 : (Jvm.Cond.lays "LiarClocks$Reader" "LiarClocks$Reader" "at" "I") ∈ lw_all := lw_g (lw_at lw_m1 132 rfl) rfl
theorem q201 : (Jvm.Cond.soleField "LiarClocks$Reader" "at") ∈ lw_all := lw_g (lw_at lw_m1 133 rfl) rfl
theorem q202 : (Jvm.Cond.laysFinal "LiarClocks$Reader" "LiarClocks$Reader" "this$0" "LLiarClocks;") ∈ lw_all := lw_g (lw_at lw_m1 134 rfl) rfl
theorem q203 : (Jvm.Cond.soleField "LiarClocks$Reader" "this$0") ∈ lw_all := lw_g (lw_at lw_m1 135 rfl) rfl
theorem q204 : (Jvm.Cond.superclass "LiarClocks$Reader" "java/lang/Object") ∈ lw_all := lw_g (lw_at lw_m1 136 rfl) rfl
theorem q206 : (Jvm.Cond.instanceMethod ({ cls := "LiarClocks$Reader", name := "all", desc := "()V" } : Jvm.MethodName)) ∈ lw_all := lw_g (lw_at lw_m1 138 rfl) rfl
theorem q207 : (Jvm.Cond.selects "LiarClocks$Reader" ({ cls := "LiarClocks$Reader", name := "all", desc := "()V" } : Jvm.MethodName) ({ cls := "LiarClocks$Reader", name := "all", desc := "()V" } : Jvm.MethodName)) ∈ lw_all := lw_g (lw_at lw_m1 139 rfl) rfl
theorem q208 : (Jvm.Cond.code ({ cls := "LiarClocks$Reader", name := "all", desc := "()V" } : Jvm.MethodName) prog_5_method_12_code (1 : Nat) (Option.none : Option Jvm.ClassFile.FieldType)) ∈ lw_all := lw_g (lw_at lw_m1 140 rfl) rfl
theorem q209 : (Jvm.Cond.methodLink "LiarClocks$Reader" (33 : Nat) ({ cls := "LiarClocks$Reader", name := "here", desc := "()I" } : Jvm.MethodName)) ∈ lw_all := lw_g (lw_at lw_m1 141 rfl) rfl
theorem q210 : (Jvm.Cond.privateMethod ({ cls := "LiarClocks$Reader", name := "here", desc := "()I" } : Jvm.MethodName)) ∈ lw_tbl := lw_at lw_m1 142 rfl
theorem q211 : (Jvm.Cond.instanceMethod ({ cls := "LiarClocks$Reader", name := "here", desc := "()I" } : Jvm.MethodName)) ∈ lw_all := lw_g (lw_at lw_m1 143 rfl) rfl
theorem q212 : (Jvm.Cond.code ({ cls := "LiarClocks$Reader", name := "here", desc := "()I" } : Jvm.MethodName) prog_5_method_2_code (1 : Nat) (Option.some Jvm.ClassFile.FieldType.int)) ∈ lw_all := lw_g (lw_at lw_m1 144 rfl) rfl
theorem q213 : (Jvm.Cond.methodLink "LiarClocks$Reader" (122 : Nat) ({ cls := "LiarClocks$Reader", name := "clause", desc := "()V" } : Jvm.MethodName)) ∈ lw_all := lw_g (lw_at lw_m1 145 rfl) rfl
theorem q214 : (Jvm.Cond.privateMethod ({ cls := "LiarClocks$Reader", name := "clause", desc := "()V" } : Jvm.MethodName)) ∈ lw_tbl := lw_at lw_m1 146 rfl
theorem q215 : (Jvm.Cond.instanceMethod ({ cls := "LiarClocks$Reader", name := "clause", desc := "()V" } : Jvm.MethodName)) ∈ lw_all := lw_g (lw_at lw_m1 147 rfl) rfl
theorem q216 : (Jvm.Cond.code ({ cls := "LiarClocks$Reader", name := "clause", desc := "()V" } : Jvm.MethodName) prog_5_method_11_code (3 : Nat) (Option.none : Option Jvm.ClassFile.FieldType)) ∈ lw_all := lw_g (lw_at lw_m1 148 rfl) rfl
theorem q217 : (Jvm.Cond.methodLink "LiarClocks$Reader" (37 : Nat) ({ cls := "LiarClocks$Reader", name := "place", desc := "()I" } : Jvm.MethodName)) ∈ lw_all := lw_g (lw_at lw_m1 149 rfl) rfl
theorem q218 : (Jvm.Cond.privateMethod ({ cls := "LiarClocks$Reader", name := "place", desc := "()I" } : Jvm.MethodName)) ∈ lw_tbl := lw_at lw_m1 150 rfl
theorem q219 : (Jvm.Cond.instanceMethod ({ cls := "LiarClocks$Reader", name := "place", desc := "()I" } : Jvm.MethodName)) ∈ lw_all := lw_g (lw_at lw_m1 151 rfl) rfl
theorem q220 : (Jvm.Cond.code ({ cls := "LiarClocks$Reader", name := "place", desc := "()I" } : Jvm.MethodName) prog_5_method_3_code (2 : Nat) (Option.some Jvm.ClassFile.FieldType.int)) ∈ lw_all := lw_g (lw_at lw_m1 152 rfl) rfl
theorem q221 : (Jvm.Cond.methodLink "LiarClocks$Reader" (109 : Nat) ({ cls := "LiarClocks$Reader", name := "readClock", desc := "(I)V" } : Jvm.MethodName)) ∈ lw_all := lw_g (lw_at lw_m1 153 rfl) rfl
theorem q222 : (Jvm.Cond.privateMethod ({ cls := "LiarClocks$Reader", name := "readClock", desc := "(I)V" } : Jvm.MethodName)) ∈ lw_tbl := lw_at lw_m1 154 rfl
theorem q223 : (Jvm.Cond.instanceMethod ({ cls := "LiarClocks$Reader", name := "readClock", desc := "(I)V" } : Jvm.MethodName)) ∈ lw_all := lw_g (lw_at lw_m1 155 rfl) rfl
theorem q224 : (Jvm.Cond.code ({ cls := "LiarClocks$Reader", name := "readClock", desc := "(I)V" } : Jvm.MethodName) prog_5_method_7_code (3 : Nat) (Option.none : Option Jvm.ClassFile.FieldType)) ∈ lw_all := lw_g (lw_at lw_m1 156 rfl) rfl
theorem q225 : (Jvm.Cond.methodLink "LiarClocks$Reader" (78 : Nat) ({ cls := "LiarClocks$Reader", name := "check", desc := "(ZZZI)V" } : Jvm.MethodName)) ∈ lw_all := lw_g (lw_at lw_m1 157 rfl) rfl
theorem q226 : (Jvm.Cond.privateMethod ({ cls := "LiarClocks$Reader", name := "check", desc := "(ZZZI)V" } : Jvm.MethodName)) ∈ lw_tbl := lw_at lw_m1 158 rfl
theorem q227 : (Jvm.Cond.instanceMethod ({ cls := "LiarClocks$Reader", name := "check", desc := "(ZZZI)V" } : Jvm.MethodName)) ∈ lw_all := lw_g (lw_at lw_m1 159 rfl) rfl
theorem q228 : (Jvm.Cond.codeWith ({ cls := "LiarClocks$Reader", name := "check", desc := "(ZZZI)V" } : Jvm.MethodName) prog_5_method_6_code (6 : Nat) (Option.none : Option Jvm.ClassFile.FieldType) [((0 : Nat), (36 : Nat), (39 : Nat), (55 : Nat)), ((0 : Nat), (36 : Nat), (39 : Nat), (69 : Nat)), ((0 : Nat), (36 : Nat), (39 : Nat), (72 : Nat))]) ∈ lw_all := lw_g (lw_at lw_m1 160 rfl) rfl
theorem q229 : (Jvm.Cond.classLink "LiarClocks$Reader" (55 : Nat) "LiarClocks$Odd") ∈ lw_all := lw_g (lw_at lw_m1 161 rfl) rfl
theorem q230 : (Jvm.Cond.classLink "LiarClocks$Reader" (69 : Nat) "LiarClocks$TooMany") ∈ lw_all := lw_g (lw_at lw_m1 162 rfl) rfl
theorem q231 : (Jvm.Cond.classLink "LiarClocks$Reader" (72 : Nat) "LiarClocks$Twice") ∈ lw_all := lw_g (lw_at lw_m1 163 rfl) rfl
theorem q274 : (Jvm.Cond.methodLink "LiarClocks$Reader" (57 : Nat) ({ cls := "LiarClocks$Odd", name := "<init>", desc := "()V" } : Jvm.MethodName)) ∈ lw_all := lw_g (lw_at lw_m1 206 rfl) rfl
theorem q306 : (Jvm.Cond.methodLink "LiarClocks$Reader" (71 : Nat) ({ cls := "LiarClocks$TooMany", name := "<init>", desc := "()V" } : Jvm.MethodName)) ∈ lw_all := lw_g (lw_at lw_m1 238 rfl) rfl
theorem q321 : (Jvm.Cond.methodLink "LiarClocks$Reader" (74 : Nat) ({ cls := "LiarClocks$Twice", name := "<init>", desc := "()V" } : Jvm.MethodName)) ∈ lw_all := lw_g (lw_at lw_m2 13 rfl) rfl
theorem q328 : (Jvm.Cond.classLink "LiarClocks$Reader" (64 : Nat) "LiarClocks$Unread") ∈ lw_all := lw_g (lw_at lw_m2 20 rfl) rfl
theorem q337 : (Jvm.Cond.methodLink "LiarClocks$Reader" (66 : Nat) ({ cls := "LiarClocks$Unread", name := "<init>", desc := "(ILjava/lang/Exception;)V" } : Jvm.MethodName)) ∈ lw_all := lw_g (lw_at lw_m2 29 rfl) rfl
theorem q353 : (Jvm.Cond.methodLink "LiarClocks$Reader" (86 : Nat) ({ cls := "LiarClocks$Reader", name := "numberIn", desc := "(II)I" } : Jvm.MethodName)) ∈ lw_all := lw_g (lw_at lw_m2 45 rfl) rfl
theorem q354 : (Jvm.Cond.privateMethod ({ cls := "LiarClocks$Reader", name := "numberIn", desc := "(II)I" } : Jvm.MethodName)) ∈ lw_tbl := lw_at lw_m2 46 rfl
theorem q355 : (Jvm.Cond.instanceMethod ({ cls := "LiarClocks$Reader", name := "numberIn", desc := "(II)I" } : Jvm.MethodName)) ∈ lw_all := lw_g (lw_at lw_m2 47 rfl) rfl
theorem q356 : (Jvm.Cond.codeWith ({ cls := "LiarClocks$Reader", name := "numberIn", desc := "(II)I" } : Jvm.MethodName) prog_5_method_5_code (5 : Nat) (Option.some Jvm.ClassFile.FieldType.int) [((5 : Nat), (34 : Nat), (35 : Nat), (55 : Nat)), ((5 : Nat), (34 : Nat), (35 : Nat), (58 : Nat))]) ∈ lw_all := lw_g (lw_at lw_m2 48 rfl) rfl
theorem q357 : (Jvm.Cond.classLink "LiarClocks$Reader" (58 : Nat) "LiarClocks$Beyond") ∈ lw_all := lw_g (lw_at lw_m2 49 rfl) rfl
theorem q358 : (Jvm.Cond.methodLink "LiarClocks$Reader" (61 : Nat) ({ cls := "LiarClocks$Reader", name := "number", desc := "()I" } : Jvm.MethodName)) ∈ lw_all := lw_g (lw_at lw_m2 50 rfl) rfl
theorem q359 : (Jvm.Cond.privateMethod ({ cls := "LiarClocks$Reader", name := "number", desc := "()I" } : Jvm.MethodName)) ∈ lw_tbl := lw_at lw_m2 51 rfl
theorem q360 : (Jvm.Cond.instanceMethod ({ cls := "LiarClocks$Reader", name := "number", desc := "()I" } : Jvm.MethodName)) ∈ lw_all := lw_g (lw_at lw_m2 52 rfl) rfl
theorem q361 : (Jvm.Cond.code ({ cls := "LiarClocks$Reader", name := "number", desc := "()I" } : Jvm.MethodName) prog_5_method_4_code (3 : Nat) (Option.some Jvm.ClassFile.FieldType.int)) ∈ lw_all := lw_g (lw_at lw_m2 53 rfl) rfl
theorem q362 : (Jvm.Cond.constantLong "LiarClocks$Reader" (40 : Nat) (48 : Int64)) ∈ lw_all := lw_g (lw_at lw_m2 54 rfl) rfl
theorem q363 : (Jvm.Cond.constantLong "LiarClocks$Reader" (42 : Nat) (57 : Int64)) ∈ lw_all := lw_g (lw_at lw_m2 55 rfl) rfl
theorem q364 : (Jvm.Cond.methodLinkNest "LiarClocks$Reader" (44 : Nat) ({ cls := "LiarClocks", name := "isIn", desc := "(JJJ)Z" } : Jvm.MethodName) "LiarClocks") ∈ lw_tbl := lw_at lw_m2 56 rfl
theorem q365 : (Jvm.Cond.constant "LiarClocks$Reader" (48 : Nat) (100000 : Int32)) ∈ lw_all := lw_g (lw_at lw_m2 57 rfl) rfl
theorem q366 : (Jvm.Cond.methodLink "LiarClocks$Reader" (49 : Nat) ({ cls := "java/lang/Math", name := "min", desc := "(II)I" } : Jvm.MethodName)) ∈ lw_all := lw_g (lw_at lw_m2 58 rfl) rfl
theorem q377 : (Jvm.Cond.methodLink "LiarClocks$Reader" (60 : Nat) ({ cls := "LiarClocks$Beyond", name := "<init>", desc := "()V" } : Jvm.MethodName)) ∈ lw_all := lw_g (lw_at lw_m2 69 rfl) rfl
theorem q384 : (Jvm.Cond.methodLink "LiarClocks$Reader" (113 : Nat) ({ cls := "LiarClocks$Reader", name := "readLiar", desc := "()V" } : Jvm.MethodName)) ∈ lw_all := lw_g (lw_at lw_m2 76 rfl) rfl
theorem q385 : (Jvm.Cond.privateMethod ({ cls := "LiarClocks$Reader", name := "readLiar", desc := "()V" } : Jvm.MethodName)) ∈ lw_tbl := lw_at lw_m2 77 rfl
theorem q386 : (Jvm.Cond.instanceMethod ({ cls := "LiarClocks$Reader", name := "readLiar", desc := "()V" } : Jvm.MethodName)) ∈ lw_all := lw_g (lw_at lw_m2 78 rfl) rfl
theorem q387 : (Jvm.Cond.code ({ cls := "LiarClocks$Reader", name := "readLiar", desc := "()V" } : Jvm.MethodName) prog_5_method_8_code (3 : Nat) (Option.none : Option Jvm.ClassFile.FieldType)) ∈ lw_all := lw_g (lw_at lw_m2 79 rfl) rfl
theorem q388 : (Jvm.Cond.methodLink "LiarClocks$Reader" (116 : Nat) ({ cls := "LiarClocks$Reader", name := "readStrike", desc := "(I)V" } : Jvm.MethodName)) ∈ lw_all := lw_g (lw_at lw_m2 80 rfl) rfl
theorem q389 : (Jvm.Cond.privateMethod ({ cls := "LiarClocks$Reader", name := "readStrike", desc := "(I)V" } : Jvm.MethodName)) ∈ lw_tbl := lw_at lw_m2 81 rfl
theorem q390 : (Jvm.Cond.instanceMethod ({ cls := "LiarClocks$Reader", name := "readStrike", desc := "(I)V" } : Jvm.MethodName)) ∈ lw_all := lw_g (lw_at lw_m2 82 rfl) rfl
theorem q391 : (Jvm.Cond.code ({ cls := "LiarClocks$Reader", name := "readStrike", desc := "(I)V" } : Jvm.MethodName) prog_5_method_9_code (2 : Nat) (Option.none : Option Jvm.ClassFile.FieldType)) ∈ lw_all := lw_g (lw_at lw_m2 83 rfl) rfl
theorem q392 : (Jvm.Cond.methodLink "LiarClocks$Reader" (119 : Nat) ({ cls := "LiarClocks$Reader", name := "readStep", desc := "(I)V" } : Jvm.MethodName)) ∈ lw_all := lw_g (lw_at lw_m2 84 rfl) rfl
theorem q393 : (Jvm.Cond.privateMethod ({ cls := "LiarClocks$Reader", name := "readStep", desc := "(I)V" } : Jvm.MethodName)) ∈ lw_tbl := lw_at lw_m2 85 rfl
theorem q394 : (Jvm.Cond.instanceMethod ({ cls := "LiarClocks$Reader", name := "readStep", desc := "(I)V" } : Jvm.MethodName)) ∈ lw_all := lw_g (lw_at lw_m2 86 rfl) rfl
theorem q395 : (Jvm.Cond.code ({ cls := "LiarClocks$Reader", name := "readStep", desc := "(I)V" } : Jvm.MethodName) prog_5_method_10_code (2 : Nat) (Option.none : Option Jvm.ClassFile.FieldType)) ∈ lw_all := lw_g (lw_at lw_m2 87 rfl) rfl
theorem q600 : (Jvm.Cond.fieldLinkNest "LiarClocks$Reader" (29 : Nat) "LiarClocks" "text" "[B" "LiarClocks") ∈ lw_tbl := lw_at lw_m3 52 rfl
theorem q602 : (Jvm.Cond.fieldLinkNest "LiarClocks$Reader" (26 : Nat) "LiarClocks" "texted" "I" "LiarClocks") ∈ lw_tbl := lw_at lw_m3 54 rfl
theorem in_X3 : ∀ w ∈ wsX30, w ∈ lw_all := lw_in wsX30 [194, 196, 198, 200, 202] (by decide +kernel) (by decide +kernel)

/-! LiarClocks$Odd -/
set_option maxRecDepth 100000
def RX4 : String := "LiarClocks$Odd"
def TX4 : u_T := fun k => match k with
  | 0 => ("java/lang/Throwable", "cause", "Ljava/lang/Throwable;", false)
  | 1 => ("java/lang/Throwable", "stackTrace", "[Ljava/lang/StackTraceElement;", false)
  | 2 => ("java/lang/Throwable", "suppressedExceptions", "Ljava/util/List;", false)
  | 3 => ("java/lang/Throwable", "detailMessage", "Ljava/lang/String;", false)
  | 4 => ("java/lang/Throwable", "backtrace", "Ljava/lang/Object;", false)
  | _ => ("java/lang/Throwable", "depth", "I", false)
def tyX4 : Nat → FieldType := fun k => match k with
  | 0 => .object "java/lang/Throwable"
  | 1 => .array (.object "java/lang/StackTraceElement")
  | 2 => .object "java/util/List"
  | 3 => .object "java/lang/String"
  | 4 => .object "java/lang/Object"
  | _ => .int
abbrev wsX40 : List Cond := u_ws RX4 TX4 6
theorem nmX4 : ∀ a, a < 6 → ∀ b, b < 6 → a ≠ b → (TX4 a).2.1 ≠ (TX4 b).2.1 := by decide +kernel
theorem tyX4_ok : ∀ k, k < 6 → parseFieldDescriptor (TX4 k).2.2.1 = some (tyX4 k) := by decide +kernel
abbrev cX4_init : ByteArray := prog_4_method_1_code
def yX4_init : MethodName := ⟨RX4, "<init>", "()V"⟩
def dkwX4_init_0 : List UInt8 := [42, 18, 1, 183, 0, 3, 177]
abbrev dktX4_init_0 : List UInt8 := dkwX4_init_0 ++ []
theorem dksX4_init_0 : cX4_init.data.toList.drop 0 = dktX4_init_0 := by decide +kernel
theorem dX4_init_0 : decode cX4_init 0 = .ok (.aload_n 0, 1) := dk_42 (dk_at dksX4_init_0 0 rfl rfl)
theorem dX4_init_1 : decode cX4_init 1 = .ok (.ldc 1, 2) := dk_18 1 (dk_at dksX4_init_0 1 rfl rfl)
theorem dX4_init_3 : decode cX4_init 3 = .ok (.invokespecial 3, 3) := dk_183 0 3 (dk_at dksX4_init_0 3 rfl rfl)
theorem dX4_init_6 : decode cX4_init 6 = .ok (.return_, 1) := dk_177 (dk_at dksX4_init_0 6 rfl rfl)
theorem q75 : (Jvm.Cond.initialized "LiarClocks$Odd") ∈ lw_all := lw_g (lw_at lw_m1 7 rfl) rfl
theorem q232 : (Jvm.Cond.instantiable "LiarClocks$Odd" (6 : Nat)) ∈ lw_all := lw_g (lw_at lw_m1 164 rfl) rfl
theorem q233 : (Jvm.Cond.castable "LiarClocks$Odd" "LiarClocks$Odd") ∈ lw_tbl := lw_at lw_m1 165 rfl
theorem q238 : (Jvm.Cond.selects "LiarClocks$Odd" ({ cls := "java/lang/Throwable", name := "fillInStackTrace", desc := "(I)Ljava/lang/Throwable;" } : Jvm.MethodName) ({ cls := "java/lang/Throwable", name := "fillInStackTrace", desc := "(I)Ljava/lang/Throwable;" } : Jvm.MethodName)) ∈ lw_all := lw_g (lw_at lw_m1 170 rfl) rfl
theorem q239 : (Jvm.Cond.selects "LiarClocks$Odd" ({ cls := "java/lang/Throwable", name := "fillInStackTrace", desc := "()Ljava/lang/Throwable;" } : Jvm.MethodName) ({ cls := "java/lang/Throwable", name := "fillInStackTrace", desc := "()Ljava/lang/Throwable;" } : Jvm.MethodName)) ∈ lw_all := lw_g (lw_at lw_m1 171 rfl) rfl
theorem q240 : (Jvm.Cond.lays "LiarClocks$Odd" "java/lang/Throwable" "cause" "Ljava/lang/Throwable;") ∈ lw_all := lw_g (lw_at lw_m1 172 rfl) rfl
theorem q242 : (Jvm.Cond.lays "LiarClocks$Odd" "java/lang/Throwable" "stackTrace" "[Ljava/lang/StackTraceElement;") ∈ lw_all := lw_g (lw_at lw_m1 174 rfl) rfl
theorem q244 : (Jvm.Cond.lays "LiarClocks$Odd" "java/lang/Throwable" "suppressedExceptions" "Ljava/util/List;") ∈ lw_all := lw_g (lw_at lw_m1 176 rfl) rfl
theorem q246 : (Jvm.Cond.lays "LiarClocks$Odd" "java/lang/Throwable" "detailMessage" "Ljava/lang/String;") ∈ lw_all := lw_g (lw_at lw_m1 178 rfl) rfl
theorem q248 : (Jvm.Cond.lays "LiarClocks$Odd" "java/lang/Throwable" "backtrace" "Ljava/lang/Object;") ∈ lw_all := lw_g (lw_at lw_m1 180 rfl) rfl
theorem q275 : (Jvm.Cond.instanceMethod ({ cls := "LiarClocks$Odd", name := "<init>", desc := "()V" } : Jvm.MethodName)) ∈ lw_all := lw_g (lw_at lw_m1 207 rfl) rfl
theorem q276 : (Jvm.Cond.code ({ cls := "LiarClocks$Odd", name := "<init>", desc := "()V" } : Jvm.MethodName) prog_4_method_1_code (1 : Nat) (Option.none : Option Jvm.ClassFile.FieldType)) ∈ lw_all := lw_g (lw_at lw_m1 208 rfl) rfl
theorem q277 : (Jvm.Cond.stringRef "LiarClocks$Odd" (1 : Nat) "it cannot stand there") ∈ lw_tbl := lw_at lw_m1 209 rfl
theorem q278 : (Jvm.Cond.methodLink "LiarClocks$Odd" (3 : Nat) ({ cls := "java/lang/Exception", name := "<init>", desc := "(Ljava/lang/String;)V" } : Jvm.MethodName)) ∈ lw_all := lw_g (lw_at lw_m1 210 rfl) rfl
theorem q293 : (Jvm.Cond.lays "LiarClocks$Odd" "java/lang/Throwable" "depth" "I") ∈ lw_all := lw_g (lw_at lw_m1 225 rfl) rfl
theorem q296 : (Jvm.Cond.superclass "LiarClocks$Odd" "java/lang/Exception") ∈ lw_all := lw_g (lw_at lw_m1 228 rfl) rfl
theorem in_X4 : ∀ w ∈ wsX40, w ∈ lw_all := lw_in wsX40 [240, 242, 244, 246, 248, 293] (by decide +kernel) (by decide +kernel)

/-! LiarClocks$TooMany -/
set_option maxRecDepth 100000
def RX5 : String := "LiarClocks$TooMany"
def TX5 : u_T := fun k => match k with
  | 0 => ("java/lang/Throwable", "cause", "Ljava/lang/Throwable;", false)
  | 1 => ("java/lang/Throwable", "stackTrace", "[Ljava/lang/StackTraceElement;", false)
  | 2 => ("java/lang/Throwable", "suppressedExceptions", "Ljava/util/List;", false)
  | 3 => ("java/lang/Throwable", "detailMessage", "Ljava/lang/String;", false)
  | 4 => ("java/lang/Throwable", "backtrace", "Ljava/lang/Object;", false)
  | _ => ("java/lang/Throwable", "depth", "I", false)
def tyX5 : Nat → FieldType := fun k => match k with
  | 0 => .object "java/lang/Throwable"
  | 1 => .array (.object "java/lang/StackTraceElement")
  | 2 => .object "java/util/List"
  | 3 => .object "java/lang/String"
  | 4 => .object "java/lang/Object"
  | _ => .int
abbrev wsX50 : List Cond := u_ws RX5 TX5 6
theorem nmX5 : ∀ a, a < 6 → ∀ b, b < 6 → a ≠ b → (TX5 a).2.1 ≠ (TX5 b).2.1 := by decide +kernel
theorem tyX5_ok : ∀ k, k < 6 → parseFieldDescriptor (TX5 k).2.2.1 = some (tyX5 k) := by decide +kernel
abbrev cX5_init : ByteArray := prog_7_method_1_code
def yX5_init : MethodName := ⟨RX5, "<init>", "()V"⟩
def dkwX5_init_0 : List UInt8 := [42, 18, 1, 183, 0, 3, 177]
abbrev dktX5_init_0 : List UInt8 := dkwX5_init_0 ++ []
theorem dksX5_init_0 : cX5_init.data.toList.drop 0 = dktX5_init_0 := by decide +kernel
theorem dX5_init_0 : decode cX5_init 0 = .ok (.aload_n 0, 1) := dk_42 (dk_at dksX5_init_0 0 rfl rfl)
theorem dX5_init_1 : decode cX5_init 1 = .ok (.ldc 1, 2) := dk_18 1 (dk_at dksX5_init_0 1 rfl rfl)
theorem dX5_init_3 : decode cX5_init 3 = .ok (.invokespecial 3, 3) := dk_183 0 3 (dk_at dksX5_init_0 3 rfl rfl)
theorem dX5_init_6 : decode cX5_init 6 = .ok (.return_, 1) := dk_177 (dk_at dksX5_init_0 6 rfl rfl)
theorem q76 : (Jvm.Cond.initialized "LiarClocks$TooMany") ∈ lw_all := lw_g (lw_at lw_m1 8 rfl) rfl
theorem q264 : (Jvm.Cond.selects "LiarClocks$TooMany" ({ cls := "java/lang/Throwable", name := "fillInStackTrace", desc := "()Ljava/lang/Throwable;" } : Jvm.MethodName) ({ cls := "java/lang/Throwable", name := "fillInStackTrace", desc := "()Ljava/lang/Throwable;" } : Jvm.MethodName)) ∈ lw_all := lw_g (lw_at lw_m1 196 rfl) rfl
theorem q298 : (Jvm.Cond.instantiable "LiarClocks$TooMany" (6 : Nat)) ∈ lw_all := lw_g (lw_at lw_m1 230 rfl) rfl
theorem q299 : (Jvm.Cond.castable "LiarClocks$TooMany" "LiarClocks$TooMany") ∈ lw_tbl := lw_at lw_m1 231 rfl
theorem q300 : (Jvm.Cond.selects "LiarClocks$TooMany" ({ cls := "java/lang/Throwable", name := "fillInStackTrace", desc := "(I)Ljava/lang/Throwable;" } : Jvm.MethodName) ({ cls := "java/lang/Throwable", name := "fillInStackTrace", desc := "(I)Ljava/lang/Throwable;" } : Jvm.MethodName)) ∈ lw_all := lw_g (lw_at lw_m1 232 rfl) rfl
theorem q301 : (Jvm.Cond.lays "LiarClocks$TooMany" "java/lang/Throwable" "cause" "Ljava/lang/Throwable;") ∈ lw_all := lw_g (lw_at lw_m1 233 rfl) rfl
theorem q302 : (Jvm.Cond.lays "LiarClocks$TooMany" "java/lang/Throwable" "stackTrace" "[Ljava/lang/StackTraceElement;") ∈ lw_all := lw_g (lw_at lw_m1 234 rfl) rfl
theorem q303 : (Jvm.Cond.lays "LiarClocks$TooMany" "java/lang/Throwable" "suppressedExceptions" "Ljava/util/List;") ∈ lw_all := lw_g (lw_at lw_m1 235 rfl) rfl
theorem q304 : (Jvm.Cond.lays "LiarClocks$TooMany" "java/lang/Throwable" "detailMessage" "Ljava/lang/String;") ∈ lw_all := lw_g (lw_at lw_m1 236 rfl) rfl
theorem q305 : (Jvm.Cond.lays "LiarClocks$TooMany" "java/lang/Throwable" "backtrace" "Ljava/lang/Object;") ∈ lw_all := lw_g (lw_at lw_m1 237 rfl) rfl
theorem q307 : (Jvm.Cond.instanceMethod ({ cls := "LiarClocks$TooMany", name := "<init>", desc := "()V" } : Jvm.MethodName)) ∈ lw_all := lw_g (lw_at lw_m1 239 rfl) rfl
theorem q308 : (Jvm.Cond.code ({ cls := "LiarClocks$TooMany", name := "<init>", desc := "()V" } : Jvm.MethodName) prog_7_method_1_code (1 : Nat) (Option.none : Option Jvm.ClassFile.FieldType)) ∈ lw_all := lw_g (lw_at lw_m2 0 rfl) rfl
theorem q309 : (Jvm.Cond.stringRef "LiarClocks$TooMany" (1 : Nat) "too many") ∈ lw_tbl := lw_at lw_m2 1 rfl
theorem q310 : (Jvm.Cond.methodLink "LiarClocks$TooMany" (3 : Nat) ({ cls := "java/lang/Exception", name := "<init>", desc := "(Ljava/lang/String;)V" } : Jvm.MethodName)) ∈ lw_all := lw_g (lw_at lw_m2 2 rfl) rfl
theorem q311 : (Jvm.Cond.lays "LiarClocks$TooMany" "java/lang/Throwable" "depth" "I") ∈ lw_all := lw_g (lw_at lw_m2 3 rfl) rfl
theorem q312 : (Jvm.Cond.superclass "LiarClocks$TooMany" "java/lang/Exception") ∈ lw_all := lw_g (lw_at lw_m2 4 rfl) rfl
theorem in_X5 : ∀ w ∈ wsX50, w ∈ lw_all := lw_in wsX50 [301, 302, 303, 304, 305, 311] (by decide +kernel) (by decide +kernel)

/-! LiarClocks$Twice -/
set_option maxRecDepth 100000
def RX6 : String := "LiarClocks$Twice"
def TX6 : u_T := fun k => match k with
  | 0 => ("java/lang/Throwable", "cause", "Ljava/lang/Throwable;", false)
  | 1 => ("java/lang/Throwable", "stackTrace", "[Ljava/lang/StackTraceElement;", false)
  | 2 => ("java/lang/Throwable", "suppressedExceptions", "Ljava/util/List;", false)
  | 3 => ("java/lang/Throwable", "detailMessage", "Ljava/lang/String;", false)
  | 4 => ("java/lang/Throwable", "backtrace", "Ljava/lang/Object;", false)
  | _ => ("java/lang/Throwable", "depth", "I", false)
def tyX6 : Nat → FieldType := fun k => match k with
  | 0 => .object "java/lang/Throwable"
  | 1 => .array (.object "java/lang/StackTraceElement")
  | 2 => .object "java/util/List"
  | 3 => .object "java/lang/String"
  | 4 => .object "java/lang/Object"
  | _ => .int
abbrev wsX60 : List Cond := u_ws RX6 TX6 6
theorem nmX6 : ∀ a, a < 6 → ∀ b, b < 6 → a ≠ b → (TX6 a).2.1 ≠ (TX6 b).2.1 := by decide +kernel
theorem tyX6_ok : ∀ k, k < 6 → parseFieldDescriptor (TX6 k).2.2.1 = some (tyX6 k) := by decide +kernel
abbrev cX6_init : ByteArray := prog_8_method_1_code
def yX6_init : MethodName := ⟨RX6, "<init>", "()V"⟩
def dkwX6_init_0 : List UInt8 := [42, 18, 1, 183, 0, 3, 177]
abbrev dktX6_init_0 : List UInt8 := dkwX6_init_0 ++ []
theorem dksX6_init_0 : cX6_init.data.toList.drop 0 = dktX6_init_0 := by decide +kernel
theorem dX6_init_0 : decode cX6_init 0 = .ok (.aload_n 0, 1) := dk_42 (dk_at dksX6_init_0 0 rfl rfl)
theorem dX6_init_1 : decode cX6_init 1 = .ok (.ldc 1, 2) := dk_18 1 (dk_at dksX6_init_0 1 rfl rfl)
theorem dX6_init_3 : decode cX6_init 3 = .ok (.invokespecial 3, 3) := dk_183 0 3 (dk_at dksX6_init_0 3 rfl rfl)
theorem dX6_init_6 : decode cX6_init 6 = .ok (.return_, 1) := dk_177 (dk_at dksX6_init_0 6 rfl rfl)
theorem q77 : (Jvm.Cond.initialized "LiarClocks$Twice") ∈ lw_all := lw_g (lw_at lw_m1 9 rfl) rfl
theorem q265 : (Jvm.Cond.selects "LiarClocks$Twice" ({ cls := "java/lang/Throwable", name := "fillInStackTrace", desc := "()Ljava/lang/Throwable;" } : Jvm.MethodName) ({ cls := "java/lang/Throwable", name := "fillInStackTrace", desc := "()Ljava/lang/Throwable;" } : Jvm.MethodName)) ∈ lw_all := lw_g (lw_at lw_m1 197 rfl) rfl
theorem q313 : (Jvm.Cond.instantiable "LiarClocks$Twice" (6 : Nat)) ∈ lw_all := lw_g (lw_at lw_m2 5 rfl) rfl
theorem q314 : (Jvm.Cond.castable "LiarClocks$Twice" "LiarClocks$Twice") ∈ lw_tbl := lw_at lw_m2 6 rfl
theorem q315 : (Jvm.Cond.selects "LiarClocks$Twice" ({ cls := "java/lang/Throwable", name := "fillInStackTrace", desc := "(I)Ljava/lang/Throwable;" } : Jvm.MethodName) ({ cls := "java/lang/Throwable", name := "fillInStackTrace", desc := "(I)Ljava/lang/Throwable;" } : Jvm.MethodName)) ∈ lw_all := lw_g (lw_at lw_m2 7 rfl) rfl
theorem q316 : (Jvm.Cond.lays "LiarClocks$Twice" "java/lang/Throwable" "cause" "Ljava/lang/Throwable;") ∈ lw_all := lw_g (lw_at lw_m2 8 rfl) rfl
theorem q317 : (Jvm.Cond.lays "LiarClocks$Twice" "java/lang/Throwable" "stackTrace" "[Ljava/lang/StackTraceElement;") ∈ lw_all := lw_g (lw_at lw_m2 9 rfl) rfl
theorem q318 : (Jvm.Cond.lays "LiarClocks$Twice" "java/lang/Throwable" "suppressedExceptions" "Ljava/util/List;") ∈ lw_all := lw_g (lw_at lw_m2 10 rfl) rfl
theorem q319 : (Jvm.Cond.lays "LiarClocks$Twice" "java/lang/Throwable" "detailMessage" "Ljava/lang/String;") ∈ lw_all := lw_g (lw_at lw_m2 11 rfl) rfl
theorem q320 : (Jvm.Cond.lays "LiarClocks$Twice" "java/lang/Throwable" "backtrace" "Ljava/lang/Object;") ∈ lw_all := lw_g (lw_at lw_m2 12 rfl) rfl
theorem q322 : (Jvm.Cond.instanceMethod ({ cls := "LiarClocks$Twice", name := "<init>", desc := "()V" } : Jvm.MethodName)) ∈ lw_all := lw_g (lw_at lw_m2 14 rfl) rfl
theorem q323 : (Jvm.Cond.code ({ cls := "LiarClocks$Twice", name := "<init>", desc := "()V" } : Jvm.MethodName) prog_8_method_1_code (1 : Nat) (Option.none : Option Jvm.ClassFile.FieldType)) ∈ lw_all := lw_g (lw_at lw_m2 15 rfl) rfl
theorem q324 : (Jvm.Cond.stringRef "LiarClocks$Twice" (1 : Nat) "told already") ∈ lw_tbl := lw_at lw_m2 16 rfl
theorem q325 : (Jvm.Cond.methodLink "LiarClocks$Twice" (3 : Nat) ({ cls := "java/lang/Exception", name := "<init>", desc := "(Ljava/lang/String;)V" } : Jvm.MethodName)) ∈ lw_all := lw_g (lw_at lw_m2 17 rfl) rfl
theorem q326 : (Jvm.Cond.lays "LiarClocks$Twice" "java/lang/Throwable" "depth" "I") ∈ lw_all := lw_g (lw_at lw_m2 18 rfl) rfl
theorem q327 : (Jvm.Cond.superclass "LiarClocks$Twice" "java/lang/Exception") ∈ lw_all := lw_g (lw_at lw_m2 19 rfl) rfl
theorem in_X6 : ∀ w ∈ wsX60, w ∈ lw_all := lw_in wsX60 [316, 317, 318, 319, 320, 326] (by decide +kernel) (by decide +kernel)

/-! LiarClocks$Unread -/
set_option maxRecDepth 100000
def RX7 : String := "LiarClocks$Unread"
def TX7 : u_T := fun k => match k with
  | 0 => ("java/lang/Throwable", "cause", "Ljava/lang/Throwable;", false)
  | 1 => ("java/lang/Throwable", "stackTrace", "[Ljava/lang/StackTraceElement;", false)
  | 2 => ("java/lang/Throwable", "suppressedExceptions", "Ljava/util/List;", false)
  | 3 => ("java/lang/Throwable", "detailMessage", "Ljava/lang/String;", false)
  | 4 => ("java/lang/Throwable", "backtrace", "Ljava/lang/Object;", false)
  | 5 => ("java/lang/Throwable", "depth", "I", false)
  | _ => ("LiarClocks$Unread", "place", "I", true)
def tyX7 : Nat → FieldType := fun k => match k with
  | 0 => .object "java/lang/Throwable"
  | 1 => .array (.object "java/lang/StackTraceElement")
  | 2 => .object "java/util/List"
  | 3 => .object "java/lang/String"
  | 4 => .object "java/lang/Object"
  | 5 => .int
  | _ => .int
abbrev wsX70 : List Cond := u_ws RX7 TX7 7
theorem nmX7 : ∀ a, a < 7 → ∀ b, b < 7 → a ≠ b → (TX7 a).2.1 ≠ (TX7 b).2.1 := by decide +kernel
theorem tyX7_ok : ∀ k, k < 7 → parseFieldDescriptor (TX7 k).2.2.1 = some (tyX7 k) := by decide +kernel
abbrev cX7_init : ByteArray := prog_10_method_1_code
def yX7_init : MethodName := ⟨RX7, "<init>", "(ILjava/lang/Exception;)V"⟩
def dkwX7_init_0 : List UInt8 := [42, 18, 1, 44, 183, 0, 3, 42, 27, 181, 0, 9, 177]
abbrev dktX7_init_0 : List UInt8 := dkwX7_init_0 ++ []
theorem dksX7_init_0 : cX7_init.data.toList.drop 0 = dktX7_init_0 := by decide +kernel
theorem dX7_init_0 : decode cX7_init 0 = .ok (.aload_n 0, 1) := dk_42 (dk_at dksX7_init_0 0 rfl rfl)
theorem dX7_init_1 : decode cX7_init 1 = .ok (.ldc 1, 2) := dk_18 1 (dk_at dksX7_init_0 1 rfl rfl)
theorem dX7_init_3 : decode cX7_init 3 = .ok (.aload_n 2, 1) := dk_44 (dk_at dksX7_init_0 3 rfl rfl)
theorem dX7_init_4 : decode cX7_init 4 = .ok (.invokespecial 3, 3) := dk_183 0 3 (dk_at dksX7_init_0 4 rfl rfl)
theorem dX7_init_7 : decode cX7_init 7 = .ok (.aload_n 0, 1) := dk_42 (dk_at dksX7_init_0 7 rfl rfl)
theorem dX7_init_8 : decode cX7_init 8 = .ok (.iload_n 1, 1) := dk_27 (dk_at dksX7_init_0 8 rfl rfl)
theorem dX7_init_9 : decode cX7_init 9 = .ok (.putfield 9, 3) := dk_181 0 9 (dk_at dksX7_init_0 9 rfl rfl)
theorem dX7_init_12 : decode cX7_init 12 = .ok (.return_, 1) := dk_177 (dk_at dksX7_init_0 12 rfl rfl)
abbrev cX7_number : ByteArray := prog_10_method_2_code
def yX7_number : MethodName := ⟨RX7, "number", "()I"⟩
def dkwX7_number_1 : List UInt8 := [167, 0, 15, 43, 193, 0, 23, 153, 0, 7, 6, 167, 0, 4, 7, 172]
abbrev dktX7_number_1 : List UInt8 := dkwX7_number_1 ++ []
def dkwX7_number_0 : List UInt8 := [42, 182, 0, 15, 76, 43, 193, 0, 19, 153, 0, 7, 4, 167, 0, 26, 43, 193, 0, 21, 153, 0, 7, 5]
abbrev dktX7_number_0 : List UInt8 := dkwX7_number_0 ++ dktX7_number_1
theorem dksX7_number_0 : cX7_number.data.toList.drop 0 = dktX7_number_0 := by decide +kernel
theorem dksX7_number_1 : cX7_number.data.toList.drop 24 = dktX7_number_1 := dk_seg dksX7_number_0 24 rfl rfl
theorem dX7_number_0 : decode cX7_number 0 = .ok (.aload_n 0, 1) := dk_42 (dk_at dksX7_number_0 0 rfl rfl)
theorem dX7_number_1 : decode cX7_number 1 = .ok (.invokevirtual 15, 3) := dk_182 0 15 (dk_at dksX7_number_0 1 rfl rfl)
theorem dX7_number_4 : decode cX7_number 4 = .ok (.astore_n 1, 1) := dk_76 (dk_at dksX7_number_0 4 rfl rfl)
theorem dX7_number_5 : decode cX7_number 5 = .ok (.aload_n 1, 1) := dk_43 (dk_at dksX7_number_0 5 rfl rfl)
theorem dX7_number_6 : decode cX7_number 6 = .ok (.instanceof 19, 3) := dk_193 0 19 (dk_at dksX7_number_0 6 rfl rfl)
theorem dX7_number_9 : decode cX7_number 9 = .ok (.ifCond .eq 7, 3) := dk_153 0 7 (dk_at dksX7_number_0 9 rfl rfl)
theorem dX7_number_12 : decode cX7_number 12 = .ok (.iconst 1, 1) := dk_4 (dk_at dksX7_number_0 12 rfl rfl)
theorem dX7_number_13 : decode cX7_number 13 = .ok (.goto 26, 3) := dk_167 0 26 (dk_at dksX7_number_0 13 rfl rfl)
theorem dX7_number_16 : decode cX7_number 16 = .ok (.aload_n 1, 1) := dk_43 (dk_at dksX7_number_0 16 rfl rfl)
theorem dX7_number_17 : decode cX7_number 17 = .ok (.instanceof 21, 3) := dk_193 0 21 (dk_at dksX7_number_0 17 rfl rfl)
theorem dX7_number_20 : decode cX7_number 20 = .ok (.ifCond .eq 7, 3) := dk_153 0 7 (dk_at dksX7_number_0 20 rfl rfl)
theorem dX7_number_23 : decode cX7_number 23 = .ok (.iconst 2, 1) := dk_5 (dk_at dksX7_number_0 23 rfl rfl)
theorem dX7_number_24 : decode cX7_number 24 = .ok (.goto 15, 3) := dk_167 0 15 (dk_at dksX7_number_1 0 rfl rfl)
theorem dX7_number_27 : decode cX7_number 27 = .ok (.aload_n 1, 1) := dk_43 (dk_at dksX7_number_1 3 rfl rfl)
theorem dX7_number_28 : decode cX7_number 28 = .ok (.instanceof 23, 3) := dk_193 0 23 (dk_at dksX7_number_1 4 rfl rfl)
theorem dX7_number_31 : decode cX7_number 31 = .ok (.ifCond .eq 7, 3) := dk_153 0 7 (dk_at dksX7_number_1 7 rfl rfl)
theorem dX7_number_34 : decode cX7_number 34 = .ok (.iconst 3, 1) := dk_6 (dk_at dksX7_number_1 10 rfl rfl)
theorem dX7_number_35 : decode cX7_number 35 = .ok (.goto 4, 3) := dk_167 0 4 (dk_at dksX7_number_1 11 rfl rfl)
theorem dX7_number_38 : decode cX7_number 38 = .ok (.iconst 4, 1) := dk_7 (dk_at dksX7_number_1 14 rfl rfl)
theorem dX7_number_39 : decode cX7_number 39 = .ok (.ireturn, 1) := dk_172 (dk_at dksX7_number_1 15 rfl rfl)
theorem q78 : (Jvm.Cond.initialized "LiarClocks$Unread") ∈ lw_all := lw_g (lw_at lw_m1 10 rfl) rfl
theorem q267 : (Jvm.Cond.selects "LiarClocks$Unread" ({ cls := "java/lang/Throwable", name := "fillInStackTrace", desc := "()Ljava/lang/Throwable;" } : Jvm.MethodName) ({ cls := "java/lang/Throwable", name := "fillInStackTrace", desc := "()Ljava/lang/Throwable;" } : Jvm.MethodName)) ∈ lw_all := lw_g (lw_at lw_m1 199 rfl) rfl
theorem q329 : (Jvm.Cond.instantiable "LiarClocks$Unread" (7 : Nat)) ∈ lw_all := lw_g (lw_at lw_m2 21 rfl) rfl
theorem q330 : (Jvm.Cond.castable "LiarClocks$Unread" "LiarClocks$Unread") ∈ lw_tbl := lw_at lw_m2 22 rfl
theorem q331 : (Jvm.Cond.selects "LiarClocks$Unread" ({ cls := "java/lang/Throwable", name := "fillInStackTrace", desc := "(I)Ljava/lang/Throwable;" } : Jvm.MethodName) ({ cls := "java/lang/Throwable", name := "fillInStackTrace", desc := "(I)Ljava/lang/Throwable;" } : Jvm.MethodName)) ∈ lw_all := lw_g (lw_at lw_m2 23 rfl) rfl
theorem q332 : (Jvm.Cond.lays "LiarClocks$Unread" "java/lang/Throwable" "cause" "Ljava/lang/Throwable;") ∈ lw_all := lw_g (lw_at lw_m2 24 rfl) rfl
theorem q333 : (Jvm.Cond.lays "LiarClocks$Unread" "java/lang/Throwable" "stackTrace" "[Ljava/lang/StackTraceElement;") ∈ lw_all := lw_g (lw_at lw_m2 25 rfl) rfl
theorem q334 : (Jvm.Cond.lays "LiarClocks$Unread" "java/lang/Throwable" "suppressedExceptions" "Ljava/util/List;") ∈ lw_all := lw_g (lw_at lw_m2 26 rfl) rfl
theorem q335 : (Jvm.Cond.lays "LiarClocks$Unread" "java/lang/Throwable" "detailMessage" "Ljava/lang/String;") ∈ lw_all := lw_g (lw_at lw_m2 27 rfl) rfl
theorem q336 : (Jvm.Cond.lays "LiarClocks$Unread" "java/lang/Throwable" "backtrace" "Ljava/lang/Object;") ∈ lw_all := lw_g (lw_at lw_m2 28 rfl) rfl
theorem q338 : (Jvm.Cond.instanceMethod ({ cls := "LiarClocks$Unread", name := "<init>", desc := "(ILjava/lang/Exception;)V" } : Jvm.MethodName)) ∈ lw_all := lw_g (lw_at lw_m2 30 rfl) rfl
theorem q339 : (Jvm.Cond.code ({ cls := "LiarClocks$Unread", name := "<init>", desc := "(ILjava/lang/Exception;)V" } : Jvm.MethodName) prog_10_method_1_code (3 : Nat) (Option.none : Option Jvm.ClassFile.FieldType)) ∈ lw_all := lw_g (lw_at lw_m2 31 rfl) rfl
theorem q340 : (Jvm.Cond.stringRef "LiarClocks$Unread" (1 : Nat) "unread") ∈ lw_tbl := lw_at lw_m2 32 rfl
theorem q341 : (Jvm.Cond.methodLink "LiarClocks$Unread" (3 : Nat) ({ cls := "java/lang/Exception", name := "<init>", desc := "(Ljava/lang/String;Ljava/lang/Throwable;)V" } : Jvm.MethodName)) ∈ lw_all := lw_g (lw_at lw_m2 33 rfl) rfl
theorem q347 : (Jvm.Cond.fieldLink "LiarClocks$Unread" (9 : Nat) "LiarClocks$Unread" "place" "I") ∈ lw_all := lw_g (lw_at lw_m2 39 rfl) rfl
theorem q349 : (Jvm.Cond.laysFinal "LiarClocks$Unread" "LiarClocks$Unread" "place" "I") ∈ lw_all := lw_g (lw_at lw_m2 41 rfl) rfl
theorem q350 : (Jvm.Cond.soleField "LiarClocks$Unread" "place") ∈ lw_all := lw_g (lw_at lw_m2 42 rfl) rfl
theorem q351 : (Jvm.Cond.lays "LiarClocks$Unread" "java/lang/Throwable" "depth" "I") ∈ lw_all := lw_g (lw_at lw_m2 43 rfl) rfl
theorem q352 : (Jvm.Cond.superclass "LiarClocks$Unread" "java/lang/Exception") ∈ lw_all := lw_g (lw_at lw_m2 44 rfl) rfl
theorem q404 : (Jvm.Cond.instanceMethod ({ cls := "LiarClocks$Unread", name := "number", desc := "()I" } : Jvm.MethodName)) ∈ lw_all := lw_g (lw_at lw_m2 96 rfl) rfl
theorem q405 : (Jvm.Cond.selects "LiarClocks$Unread" ({ cls := "LiarClocks$Unread", name := "number", desc := "()I" } : Jvm.MethodName) ({ cls := "LiarClocks$Unread", name := "number", desc := "()I" } : Jvm.MethodName)) ∈ lw_all := lw_g (lw_at lw_m2 97 rfl) rfl
theorem q406 : (Jvm.Cond.code ({ cls := "LiarClocks$Unread", name := "number", desc := "()I" } : Jvm.MethodName) prog_10_method_2_code (2 : Nat) (Option.some Jvm.ClassFile.FieldType.int)) ∈ lw_all := lw_g (lw_at lw_m2 98 rfl) rfl
theorem q407 : (Jvm.Cond.methodLink "LiarClocks$Unread" (15 : Nat) ({ cls := "LiarClocks$Unread", name := "getCause", desc := "()Ljava/lang/Throwable;" } : Jvm.MethodName)) ∈ lw_all := lw_g (lw_at lw_m2 99 rfl) rfl
theorem q408 : (Jvm.Cond.sameMethod "LiarClocks$Unread" "java/lang/Throwable" "getCause" "()Ljava/lang/Throwable;") ∈ lw_all := lw_g (lw_at lw_m2 100 rfl) rfl
theorem q410 : (Jvm.Cond.selects "LiarClocks$Unread" ({ cls := "LiarClocks$Unread", name := "getCause", desc := "()Ljava/lang/Throwable;" } : Jvm.MethodName) ({ cls := "java/lang/Throwable", name := "getCause", desc := "()Ljava/lang/Throwable;" } : Jvm.MethodName)) ∈ lw_all := lw_g (lw_at lw_m2 102 rfl) rfl
theorem q413 : (Jvm.Cond.classLink "LiarClocks$Unread" (19 : Nat) "LiarClocks$Odd") ∈ lw_all := lw_g (lw_at lw_m2 105 rfl) rfl
theorem q414 : (Jvm.Cond.classLink "LiarClocks$Unread" (21 : Nat) "LiarClocks$Beyond") ∈ lw_all := lw_g (lw_at lw_m2 106 rfl) rfl
theorem q415 : (Jvm.Cond.classLink "LiarClocks$Unread" (23 : Nat) "LiarClocks$TooMany") ∈ lw_all := lw_g (lw_at lw_m2 107 rfl) rfl
theorem in_X7 : ∀ w ∈ wsX70, w ∈ lw_all := lw_in wsX70 [332, 333, 334, 335, 336, 351, 349] (by decide +kernel) (by decide +kernel)

/-! LiarClocks$Beyond -/
set_option maxRecDepth 100000
def RX8 : String := "LiarClocks$Beyond"
def TX8 : u_T := fun k => match k with
  | 0 => ("java/lang/Throwable", "cause", "Ljava/lang/Throwable;", false)
  | 1 => ("java/lang/Throwable", "stackTrace", "[Ljava/lang/StackTraceElement;", false)
  | 2 => ("java/lang/Throwable", "suppressedExceptions", "Ljava/util/List;", false)
  | 3 => ("java/lang/Throwable", "detailMessage", "Ljava/lang/String;", false)
  | 4 => ("java/lang/Throwable", "backtrace", "Ljava/lang/Object;", false)
  | _ => ("java/lang/Throwable", "depth", "I", false)
def tyX8 : Nat → FieldType := fun k => match k with
  | 0 => .object "java/lang/Throwable"
  | 1 => .array (.object "java/lang/StackTraceElement")
  | 2 => .object "java/util/List"
  | 3 => .object "java/lang/String"
  | 4 => .object "java/lang/Object"
  | _ => .int
abbrev wsX80 : List Cond := u_ws RX8 TX8 6
theorem nmX8 : ∀ a, a < 6 → ∀ b, b < 6 → a ≠ b → (TX8 a).2.1 ≠ (TX8 b).2.1 := by decide +kernel
theorem tyX8_ok : ∀ k, k < 6 → parseFieldDescriptor (TX8 k).2.2.1 = some (tyX8 k) := by decide +kernel
abbrev cX8_init : ByteArray := prog_2_method_1_code
def yX8_init : MethodName := ⟨RX8, "<init>", "()V"⟩
def dkwX8_init_0 : List UInt8 := [42, 18, 1, 183, 0, 3, 177]
abbrev dktX8_init_0 : List UInt8 := dkwX8_init_0 ++ []
theorem dksX8_init_0 : cX8_init.data.toList.drop 0 = dktX8_init_0 := by decide +kernel
theorem dX8_init_0 : decode cX8_init 0 = .ok (.aload_n 0, 1) := dk_42 (dk_at dksX8_init_0 0 rfl rfl)
theorem dX8_init_1 : decode cX8_init 1 = .ok (.ldc 1, 2) := dk_18 1 (dk_at dksX8_init_0 1 rfl rfl)
theorem dX8_init_3 : decode cX8_init 3 = .ok (.invokespecial 3, 3) := dk_183 0 3 (dk_at dksX8_init_0 3 rfl rfl)
theorem dX8_init_6 : decode cX8_init 6 = .ok (.return_, 1) := dk_177 (dk_at dksX8_init_0 6 rfl rfl)
theorem q80 : (Jvm.Cond.initialized "LiarClocks$Beyond") ∈ lw_all := lw_g (lw_at lw_m1 12 rfl) rfl
theorem q262 : (Jvm.Cond.selects "LiarClocks$Beyond" ({ cls := "java/lang/Throwable", name := "fillInStackTrace", desc := "()Ljava/lang/Throwable;" } : Jvm.MethodName) ({ cls := "java/lang/Throwable", name := "fillInStackTrace", desc := "()Ljava/lang/Throwable;" } : Jvm.MethodName)) ∈ lw_all := lw_g (lw_at lw_m1 194 rfl) rfl
theorem q369 : (Jvm.Cond.instantiable "LiarClocks$Beyond" (6 : Nat)) ∈ lw_all := lw_g (lw_at lw_m2 61 rfl) rfl
theorem q370 : (Jvm.Cond.castable "LiarClocks$Beyond" "LiarClocks$Beyond") ∈ lw_tbl := lw_at lw_m2 62 rfl
theorem q371 : (Jvm.Cond.selects "LiarClocks$Beyond" ({ cls := "java/lang/Throwable", name := "fillInStackTrace", desc := "(I)Ljava/lang/Throwable;" } : Jvm.MethodName) ({ cls := "java/lang/Throwable", name := "fillInStackTrace", desc := "(I)Ljava/lang/Throwable;" } : Jvm.MethodName)) ∈ lw_all := lw_g (lw_at lw_m2 63 rfl) rfl
theorem q372 : (Jvm.Cond.lays "LiarClocks$Beyond" "java/lang/Throwable" "cause" "Ljava/lang/Throwable;") ∈ lw_all := lw_g (lw_at lw_m2 64 rfl) rfl
theorem q373 : (Jvm.Cond.lays "LiarClocks$Beyond" "java/lang/Throwable" "stackTrace" "[Ljava/lang/StackTraceElement;") ∈ lw_all := lw_g (lw_at lw_m2 65 rfl) rfl
theorem q374 : (Jvm.Cond.lays "LiarClocks$Beyond" "java/lang/Throwable" "suppressedExceptions" "Ljava/util/List;") ∈ lw_all := lw_g (lw_at lw_m2 66 rfl) rfl
theorem q375 : (Jvm.Cond.lays "LiarClocks$Beyond" "java/lang/Throwable" "detailMessage" "Ljava/lang/String;") ∈ lw_all := lw_g (lw_at lw_m2 67 rfl) rfl
theorem q376 : (Jvm.Cond.lays "LiarClocks$Beyond" "java/lang/Throwable" "backtrace" "Ljava/lang/Object;") ∈ lw_all := lw_g (lw_at lw_m2 68 rfl) rfl
theorem q378 : (Jvm.Cond.instanceMethod ({ cls := "LiarClocks$Beyond", name := "<init>", desc := "()V" } : Jvm.MethodName)) ∈ lw_all := lw_g (lw_at lw_m2 70 rfl) rfl
theorem q379 : (Jvm.Cond.code ({ cls := "LiarClocks$Beyond", name := "<init>", desc := "()V" } : Jvm.MethodName) prog_2_method_1_code (1 : Nat) (Option.none : Option Jvm.ClassFile.FieldType)) ∈ lw_all := lw_g (lw_at lw_m2 71 rfl) rfl
theorem q380 : (Jvm.Cond.stringRef "LiarClocks$Beyond" (1 : Nat) "out of its bounds") ∈ lw_tbl := lw_at lw_m2 72 rfl
theorem q381 : (Jvm.Cond.methodLink "LiarClocks$Beyond" (3 : Nat) ({ cls := "java/lang/Exception", name := "<init>", desc := "(Ljava/lang/String;)V" } : Jvm.MethodName)) ∈ lw_all := lw_g (lw_at lw_m2 73 rfl) rfl
theorem q382 : (Jvm.Cond.lays "LiarClocks$Beyond" "java/lang/Throwable" "depth" "I") ∈ lw_all := lw_g (lw_at lw_m2 74 rfl) rfl
theorem q383 : (Jvm.Cond.superclass "LiarClocks$Beyond" "java/lang/Exception") ∈ lw_all := lw_g (lw_at lw_m2 75 rfl) rfl
theorem in_X8 : ∀ w ∈ wsX80, w ∈ lw_all := lw_in wsX80 [372, 373, 374, 375, 376, 382] (by decide +kernel) (by decide +kernel)

/-! LiarClocks$Struck -/
set_option maxRecDepth 100000
def RX9 : String := "LiarClocks$Struck"
def TX9 : u_T := fun k => match k with
  | 0 => ("java/lang/Throwable", "cause", "Ljava/lang/Throwable;", false)
  | 1 => ("java/lang/Throwable", "stackTrace", "[Ljava/lang/StackTraceElement;", false)
  | 2 => ("java/lang/Throwable", "suppressedExceptions", "Ljava/util/List;", false)
  | 3 => ("java/lang/Throwable", "detailMessage", "Ljava/lang/String;", false)
  | 4 => ("java/lang/Throwable", "backtrace", "Ljava/lang/Object;", false)
  | _ => ("java/lang/Throwable", "depth", "I", false)
def tyX9 : Nat → FieldType := fun k => match k with
  | 0 => .object "java/lang/Throwable"
  | 1 => .array (.object "java/lang/StackTraceElement")
  | 2 => .object "java/util/List"
  | 3 => .object "java/lang/String"
  | 4 => .object "java/lang/Object"
  | _ => .int
abbrev wsX90 : List Cond := u_ws RX9 TX9 6
theorem nmX9 : ∀ a, a < 6 → ∀ b, b < 6 → a ≠ b → (TX9 a).2.1 ≠ (TX9 b).2.1 := by decide +kernel
theorem tyX9_ok : ∀ k, k < 6 → parseFieldDescriptor (TX9 k).2.2.1 = some (tyX9 k) := by decide +kernel
abbrev cX9_init : ByteArray := prog_6_method_1_code
def yX9_init : MethodName := ⟨RX9, "<init>", "(LLiarClocks$Unheard;)V"⟩
def dkwX9_init_0 : List UInt8 := [42, 18, 1, 183, 0, 3, 42, 43, 182, 0, 9, 87, 177]
abbrev dktX9_init_0 : List UInt8 := dkwX9_init_0 ++ []
theorem dksX9_init_0 : cX9_init.data.toList.drop 0 = dktX9_init_0 := by decide +kernel
theorem dX9_init_0 : decode cX9_init 0 = .ok (.aload_n 0, 1) := dk_42 (dk_at dksX9_init_0 0 rfl rfl)
theorem dX9_init_1 : decode cX9_init 1 = .ok (.ldc 1, 2) := dk_18 1 (dk_at dksX9_init_0 1 rfl rfl)
theorem dX9_init_3 : decode cX9_init 3 = .ok (.invokespecial 3, 3) := dk_183 0 3 (dk_at dksX9_init_0 3 rfl rfl)
theorem dX9_init_6 : decode cX9_init 6 = .ok (.aload_n 0, 1) := dk_42 (dk_at dksX9_init_0 6 rfl rfl)
theorem dX9_init_7 : decode cX9_init 7 = .ok (.aload_n 1, 1) := dk_43 (dk_at dksX9_init_0 7 rfl rfl)
theorem dX9_init_8 : decode cX9_init 8 = .ok (.invokevirtual 9, 3) := dk_182 0 9 (dk_at dksX9_init_0 8 rfl rfl)
theorem dX9_init_11 : decode cX9_init 11 = .ok (.pop, 1) := dk_87 (dk_at dksX9_init_0 11 rfl rfl)
theorem dX9_init_12 : decode cX9_init 12 = .ok (.return_, 1) := dk_177 (dk_at dksX9_init_0 12 rfl rfl)
abbrev cX9_isForWant : ByteArray := prog_6_method_2_code
def yX9_isForWant : MethodName := ⟨RX9, "isForWant", "()Z"⟩
def dkwX9_isForWant_0 : List UInt8 := [42, 182, 0, 15, 193, 0, 19, 172]
abbrev dktX9_isForWant_0 : List UInt8 := dkwX9_isForWant_0 ++ []
theorem dksX9_isForWant_0 : cX9_isForWant.data.toList.drop 0 = dktX9_isForWant_0 := by decide +kernel
theorem dX9_isForWant_0 : decode cX9_isForWant 0 = .ok (.aload_n 0, 1) := dk_42 (dk_at dksX9_isForWant_0 0 rfl rfl)
theorem dX9_isForWant_1 : decode cX9_isForWant 1 = .ok (.invokevirtual 15, 3) := dk_182 0 15 (dk_at dksX9_isForWant_0 1 rfl rfl)
theorem dX9_isForWant_4 : decode cX9_isForWant 4 = .ok (.instanceof 19, 3) := dk_193 0 19 (dk_at dksX9_isForWant_0 4 rfl rfl)
theorem dX9_isForWant_7 : decode cX9_isForWant 7 = .ok (.ireturn, 1) := dk_172 (dk_at dksX9_isForWant_0 7 rfl rfl)
theorem q83 : (Jvm.Cond.initialized "LiarClocks$Struck") ∈ lw_all := lw_g (lw_at lw_m1 15 rfl) rfl
theorem q263 : (Jvm.Cond.selects "LiarClocks$Struck" ({ cls := "java/lang/Throwable", name := "fillInStackTrace", desc := "()Ljava/lang/Throwable;" } : Jvm.MethodName) ({ cls := "java/lang/Throwable", name := "fillInStackTrace", desc := "()Ljava/lang/Throwable;" } : Jvm.MethodName)) ∈ lw_all := lw_g (lw_at lw_m1 195 rfl) rfl
theorem q483 : (Jvm.Cond.instantiable "LiarClocks$Struck" (6 : Nat)) ∈ lw_all := lw_g (lw_at lw_m2 175 rfl) rfl
theorem q484 : (Jvm.Cond.castable "LiarClocks$Struck" "LiarClocks$Struck") ∈ lw_tbl := lw_at lw_m2 176 rfl
theorem q485 : (Jvm.Cond.selects "LiarClocks$Struck" ({ cls := "java/lang/Throwable", name := "fillInStackTrace", desc := "(I)Ljava/lang/Throwable;" } : Jvm.MethodName) ({ cls := "java/lang/Throwable", name := "fillInStackTrace", desc := "(I)Ljava/lang/Throwable;" } : Jvm.MethodName)) ∈ lw_all := lw_g (lw_at lw_m2 177 rfl) rfl
theorem q486 : (Jvm.Cond.lays "LiarClocks$Struck" "java/lang/Throwable" "cause" "Ljava/lang/Throwable;") ∈ lw_all := lw_g (lw_at lw_m2 178 rfl) rfl
theorem q487 : (Jvm.Cond.lays "LiarClocks$Struck" "java/lang/Throwable" "stackTrace" "[Ljava/lang/StackTraceElement;") ∈ lw_all := lw_g (lw_at lw_m2 179 rfl) rfl
theorem q488 : (Jvm.Cond.lays "LiarClocks$Struck" "java/lang/Throwable" "suppressedExceptions" "Ljava/util/List;") ∈ lw_all := lw_g (lw_at lw_m2 180 rfl) rfl
theorem q489 : (Jvm.Cond.lays "LiarClocks$Struck" "java/lang/Throwable" "detailMessage" "Ljava/lang/String;") ∈ lw_all := lw_g (lw_at lw_m2 181 rfl) rfl
theorem q490 : (Jvm.Cond.lays "LiarClocks$Struck" "java/lang/Throwable" "backtrace" "Ljava/lang/Object;") ∈ lw_all := lw_g (lw_at lw_m2 182 rfl) rfl
theorem q508 : (Jvm.Cond.instanceMethod ({ cls := "LiarClocks$Struck", name := "<init>", desc := "(LLiarClocks$Unheard;)V" } : Jvm.MethodName)) ∈ lw_all := lw_g (lw_at lw_m2 200 rfl) rfl
theorem q509 : (Jvm.Cond.code ({ cls := "LiarClocks$Struck", name := "<init>", desc := "(LLiarClocks$Unheard;)V" } : Jvm.MethodName) prog_6_method_1_code (2 : Nat) (Option.none : Option Jvm.ClassFile.FieldType)) ∈ lw_all := lw_g (lw_at lw_m2 201 rfl) rfl
theorem q510 : (Jvm.Cond.stringRef "LiarClocks$Struck" (1 : Nat) "all are struck") ∈ lw_tbl := lw_at lw_m2 202 rfl
theorem q511 : (Jvm.Cond.methodLink "LiarClocks$Struck" (3 : Nat) ({ cls := "java/lang/Exception", name := "<init>", desc := "(Ljava/lang/String;)V" } : Jvm.MethodName)) ∈ lw_all := lw_g (lw_at lw_m2 203 rfl) rfl
theorem q512 : (Jvm.Cond.methodLink "LiarClocks$Struck" (9 : Nat) ({ cls := "LiarClocks$Struck", name := "initCause", desc := "(Ljava/lang/Throwable;)Ljava/lang/Throwable;" } : Jvm.MethodName)) ∈ lw_all := lw_g (lw_at lw_m2 204 rfl) rfl
theorem q513 : (Jvm.Cond.sameMethod "LiarClocks$Struck" "java/lang/Throwable" "initCause" "(Ljava/lang/Throwable;)Ljava/lang/Throwable;") ∈ lw_all := lw_g (lw_at lw_m2 205 rfl) rfl
theorem q515 : (Jvm.Cond.selects "LiarClocks$Struck" ({ cls := "LiarClocks$Struck", name := "initCause", desc := "(Ljava/lang/Throwable;)Ljava/lang/Throwable;" } : Jvm.MethodName) ({ cls := "java/lang/Throwable", name := "initCause", desc := "(Ljava/lang/Throwable;)Ljava/lang/Throwable;" } : Jvm.MethodName)) ∈ lw_all := lw_g (lw_at lw_m2 207 rfl) rfl
theorem q518 : (Jvm.Cond.lays "LiarClocks$Struck" "java/lang/Throwable" "depth" "I") ∈ lw_all := lw_g (lw_at lw_m2 210 rfl) rfl
theorem q519 : (Jvm.Cond.superclass "LiarClocks$Struck" "java/lang/Exception") ∈ lw_all := lw_g (lw_at lw_m2 211 rfl) rfl
theorem q685 : (Jvm.Cond.instanceMethod ({ cls := "LiarClocks$Struck", name := "isForWant", desc := "()Z" } : Jvm.MethodName)) ∈ lw_all := lw_g (lw_at lw_m3 137 rfl) rfl
theorem q686 : (Jvm.Cond.selects "LiarClocks$Struck" ({ cls := "LiarClocks$Struck", name := "isForWant", desc := "()Z" } : Jvm.MethodName) ({ cls := "LiarClocks$Struck", name := "isForWant", desc := "()Z" } : Jvm.MethodName)) ∈ lw_all := lw_g (lw_at lw_m3 138 rfl) rfl
theorem q687 : (Jvm.Cond.code ({ cls := "LiarClocks$Struck", name := "isForWant", desc := "()Z" } : Jvm.MethodName) prog_6_method_2_code (1 : Nat) (Option.some Jvm.ClassFile.FieldType.boolean)) ∈ lw_all := lw_g (lw_at lw_m3 139 rfl) rfl
theorem q688 : (Jvm.Cond.methodLink "LiarClocks$Struck" (15 : Nat) ({ cls := "LiarClocks$Struck", name := "getCause", desc := "()Ljava/lang/Throwable;" } : Jvm.MethodName)) ∈ lw_all := lw_g (lw_at lw_m3 140 rfl) rfl
theorem q689 : (Jvm.Cond.sameMethod "LiarClocks$Struck" "java/lang/Throwable" "getCause" "()Ljava/lang/Throwable;") ∈ lw_all := lw_g (lw_at lw_m3 141 rfl) rfl
theorem q690 : (Jvm.Cond.selects "LiarClocks$Struck" ({ cls := "LiarClocks$Struck", name := "getCause", desc := "()Ljava/lang/Throwable;" } : Jvm.MethodName) ({ cls := "java/lang/Throwable", name := "getCause", desc := "()Ljava/lang/Throwable;" } : Jvm.MethodName)) ∈ lw_all := lw_g (lw_at lw_m3 142 rfl) rfl
theorem q691 : (Jvm.Cond.classLink "LiarClocks$Struck" (19 : Nat) "LiarClocks$Unheard") ∈ lw_all := lw_g (lw_at lw_m3 143 rfl) rfl
theorem in_X9 : ∀ w ∈ wsX90, w ∈ lw_all := lw_in wsX90 [486, 487, 488, 489, 490, 518] (by decide +kernel) (by decide +kernel)

theorem q68 : (Jvm.Cond.initialized "LiarClocksLaw") ∈ lw_all := lw_g (lw_at lw_m1 0 rfl) rfl
set_option maxRecDepth 100000
theorem q85 : (Jvm.Cond.methodLink "LiarClocksLaw" (13 : Nat) ({ cls := "LiarClocks", name := "feed", desc := "(I)I" } : Jvm.MethodName)) ∈ lw_all := lw_g (lw_at lw_m1 17 rfl) rfl
theorem q95 : (Jvm.Cond.methodLink "LiarClocksLaw" (18 : Nat) ({ cls := "LiarClocks", name := "clocks", desc := "()I" } : Jvm.MethodName)) ∈ lw_all := lw_g (lw_at lw_m1 27 rfl) rfl
theorem q416 : (Jvm.Cond.methodLink "LiarClocksLaw" (23 : Nat) ({ cls := "LiarClocks", name := "fault", desc := "()I" } : Jvm.MethodName)) ∈ lw_all := lw_g (lw_at lw_m2 108 rfl) rfl
theorem q420 : (Jvm.Cond.methodLink "LiarClocksLaw" (27 : Nat) ({ cls := "LiarClocks", name := "told", desc := "(I)I" } : Jvm.MethodName)) ∈ lw_all := lw_g (lw_at lw_m2 112 rfl) rfl
theorem q544 : (Jvm.Cond.methodLink "LiarClocksLaw" (31 : Nat) ({ cls := "LiarClocks", name := "clock", desc := "(II)I" } : Jvm.MethodName)) ∈ lw_all := lw_g (lw_at lw_m2 236 rfl) rfl
theorem q559 : (Jvm.Cond.methodLink "LiarClocksLaw" (36 : Nat) ({ cls := "LiarClocks", name := "heard", desc := "(III)I" } : Jvm.MethodName)) ∈ lw_all := lw_g (lw_at lw_m3 11 rfl) rfl
theorem q582 : (Jvm.Cond.methodLink "LiarClocksLaw" (41 : Nat) ({ cls := "LiarClocks", name := "alarmAt", desc := "(II)I" } : Jvm.MethodName)) ∈ lw_all := lw_g (lw_at lw_m3 34 rfl) rfl
theorem q586 : (Jvm.Cond.classLink "LiarClocksLaw" (7 : Nat) "LiarClocks") ∈ lw_all := lw_g (lw_at lw_m3 38 rfl) rfl
theorem q587 : (Jvm.Cond.methodLink "LiarClocksLaw" (9 : Nat) ({ cls := "LiarClocks", name := "<init>", desc := "()V" } : Jvm.MethodName)) ∈ lw_all := lw_g (lw_at lw_m3 39 rfl) rfl
theorem q654 : (Jvm.Cond.methodLink "LiarClocksLaw" (45 : Nat) ({ cls := "LiarClocks", name := "tick", desc := "(I)I" } : Jvm.MethodName)) ∈ lw_all := lw_g (lw_at lw_m3 106 rfl) rfl
theorem q675 : (Jvm.Cond.methodLink "LiarClocksLaw" (49 : Nat) ({ cls := "LiarClocks", name := "round", desc := "()I" } : Jvm.MethodName)) ∈ lw_all := lw_g (lw_at lw_m3 127 rfl) rfl
theorem q692 : (Jvm.Cond.methodLink "LiarClocksLaw" (53 : Nat) ({ cls := "LiarClocks", name := "lie", desc := "(III)I" } : Jvm.MethodName)) ∈ lw_all := lw_g (lw_at lw_m3 144 rfl) rfl
theorem q698 : (Jvm.Cond.methodLink "LiarClocksLaw" (57 : Nat) ({ cls := "LiarClocks", name := "error", desc := "(III)I" } : Jvm.MethodName)) ∈ lw_all := lw_g (lw_at lw_m3 150 rfl) rfl
theorem q703 : (Jvm.Cond.methodLink "LiarClocksLaw" (61 : Nat) ({ cls := "LiarClocks", name := "liar", desc := "(IZ)I" } : Jvm.MethodName)) ∈ lw_all := lw_g (lw_at lw_m3 155 rfl) rfl
theorem q707 : (Jvm.Cond.methodLink "LiarClocksLaw" (66 : Nat) ({ cls := "LiarClocks", name := "stand", desc := "(I)I" } : Jvm.MethodName)) ∈ lw_all := lw_g (lw_at lw_m3 159 rfl) rfl
theorem q712 : (Jvm.Cond.methodLink "LiarClocksLaw" (70 : Nat) ({ cls := "LiarClocks", name := "join", desc := "(I)I" } : Jvm.MethodName)) ∈ lw_all := lw_g (lw_at lw_m3 164 rfl) rfl
theorem q727 : (Jvm.Cond.methodLink "LiarClocksLaw" (74 : Nat) ({ cls := "LiarClocks", name := "alarm", desc := "(II)I" } : Jvm.MethodName)) ∈ lw_all := lw_g (lw_at lw_m3 179 rfl) rfl
theorem q732 : (Jvm.Cond.methodLink "LiarClocksLaw" (78 : Nat) ({ cls := "LiarClocks", name := "drift", desc := "(I)I" } : Jvm.MethodName)) ∈ lw_all := lw_g (lw_at lw_m3 184 rfl) rfl
theorem q748 : (Jvm.Cond.methodLink "LiarClocksLaw" (82 : Nat) ({ cls := "LiarClocks", name := "undo", desc := "(I)I" } : Jvm.MethodName)) ∈ lw_all := lw_g (lw_at lw_m3 200 rfl) rfl
theorem q752 : (Jvm.Cond.methodLink "LiarClocksLaw" (86 : Nat) ({ cls := "LiarClocks", name := "behind", desc := "(I)I" } : Jvm.MethodName)) ∈ lw_all := lw_g (lw_at lw_m3 204 rfl) rfl
theorem q756 : (Jvm.Cond.methodLink "LiarClocksLaw" (90 : Nat) ({ cls := "LiarClocks", name := "within", desc := "(I)I" } : Jvm.MethodName)) ∈ lw_all := lw_g (lw_at lw_m3 208 rfl) rfl
theorem q760 : (Jvm.Cond.methodLink "LiarClocksLaw" (94 : Nat) ({ cls := "LiarClocks", name := "write", desc := "(II)I" } : Jvm.MethodName)) ∈ lw_all := lw_g (lw_at lw_m3 212 rfl) rfl
theorem q764 : (Jvm.Cond.methodLink "LiarClocksLaw" (98 : Nat) ({ cls := "LiarClocks", name := "tear", desc := "()I" } : Jvm.MethodName)) ∈ lw_all := lw_g (lw_at lw_m3 216 rfl) rfl
theorem q768 : (Jvm.Cond.methodLink "LiarClocksLaw" (102 : Nat) ({ cls := "LiarClocks", name := "seed", desc := "(I)I" } : Jvm.MethodName)) ∈ lw_all := lw_g (lw_at lw_m3 220 rfl) rfl
theorem q772 : (Jvm.Cond.methodLink "LiarClocksLaw" (106 : Nat) ({ cls := "LiarClocks", name := "keep", desc := "(I)I" } : Jvm.MethodName)) ∈ lw_all := lw_g (lw_at lw_m3 224 rfl) rfl
theorem q776 : (Jvm.Cond.methodLink "LiarClocksLaw" (110 : Nat) ({ cls := "LiarClocks", name := "goBack", desc := "(I)I" } : Jvm.MethodName)) ∈ lw_all := lw_g (lw_at lw_m3 228 rfl) rfl
theorem q780 : (Jvm.Cond.classLink "LiarClocksLaw" (10 : Nat) "LiarClocksModel") ∈ lw_all := lw_g (lw_at lw_m3 232 rfl) rfl
theorem q782 : (Jvm.Cond.methodLink "LiarClocksLaw" (12 : Nat) ({ cls := "LiarClocksModel", name := "<init>", desc := "()V" } : Jvm.MethodName)) ∈ lw_all := lw_g (lw_at lw_m3 234 rfl) rfl
theorem q838 : (Jvm.Cond.methodLink "LiarClocksLaw" (17 : Nat) ({ cls := "LiarClocksModel", name := "feed", desc := "(I)I" } : Jvm.MethodName)) ∈ lw_all := lw_g (lw_at lw_m4 50 rfl) rfl
theorem q847 : (Jvm.Cond.methodLink "LiarClocksLaw" (22 : Nat) ({ cls := "LiarClocksModel", name := "clocks", desc := "()I" } : Jvm.MethodName)) ∈ lw_all := lw_g (lw_at lw_m4 59 rfl) rfl
theorem q883 : (Jvm.Cond.methodLink "LiarClocksLaw" (26 : Nat) ({ cls := "LiarClocksModel", name := "fault", desc := "()I" } : Jvm.MethodName)) ∈ lw_all := lw_g (lw_at lw_m4 95 rfl) rfl
theorem q887 : (Jvm.Cond.methodLink "LiarClocksLaw" (30 : Nat) ({ cls := "LiarClocksModel", name := "told", desc := "(I)I" } : Jvm.MethodName)) ∈ lw_all := lw_g (lw_at lw_m4 99 rfl) rfl
theorem q958 : (Jvm.Cond.methodLink "LiarClocksLaw" (35 : Nat) ({ cls := "LiarClocksModel", name := "clock", desc := "(II)I" } : Jvm.MethodName)) ∈ lw_all := lw_g (lw_at lw_m4 170 rfl) rfl
theorem q968 : (Jvm.Cond.methodLink "LiarClocksLaw" (40 : Nat) ({ cls := "LiarClocksModel", name := "heard", desc := "(III)I" } : Jvm.MethodName)) ∈ lw_all := lw_g (lw_at lw_m4 180 rfl) rfl
theorem q984 : (Jvm.Cond.methodLink "LiarClocksLaw" (44 : Nat) ({ cls := "LiarClocksModel", name := "alarmAt", desc := "(II)I" } : Jvm.MethodName)) ∈ lw_all := lw_g (lw_at lw_m4 196 rfl) rfl
theorem q988 : (Jvm.Cond.methodLink "LiarClocksLaw" (48 : Nat) ({ cls := "LiarClocksModel", name := "tick", desc := "(I)I" } : Jvm.MethodName)) ∈ lw_all := lw_g (lw_at lw_m4 200 rfl) rfl
theorem q1000 : (Jvm.Cond.methodLink "LiarClocksLaw" (52 : Nat) ({ cls := "LiarClocksModel", name := "round", desc := "()I" } : Jvm.MethodName)) ∈ lw_all := lw_g (lw_at lw_m4 212 rfl) rfl
theorem q1008 : (Jvm.Cond.methodLink "LiarClocksLaw" (56 : Nat) ({ cls := "LiarClocksModel", name := "lie", desc := "(III)I" } : Jvm.MethodName)) ∈ lw_all := lw_g (lw_at lw_m4 220 rfl) rfl
theorem q1012 : (Jvm.Cond.methodLink "LiarClocksLaw" (60 : Nat) ({ cls := "LiarClocksModel", name := "error", desc := "(III)I" } : Jvm.MethodName)) ∈ lw_all := lw_g (lw_at lw_m4 224 rfl) rfl
theorem q1016 : (Jvm.Cond.methodLink "LiarClocksLaw" (65 : Nat) ({ cls := "LiarClocksModel", name := "liar", desc := "(IZ)I" } : Jvm.MethodName)) ∈ lw_all := lw_g (lw_at lw_m4 228 rfl) rfl
theorem q1024 : (Jvm.Cond.methodLink "LiarClocksLaw" (69 : Nat) ({ cls := "LiarClocksModel", name := "stand", desc := "(I)I" } : Jvm.MethodName)) ∈ lw_all := lw_g (lw_at lw_m4 236 rfl) rfl
theorem q1029 : (Jvm.Cond.methodLink "LiarClocksLaw" (73 : Nat) ({ cls := "LiarClocksModel", name := "join", desc := "(I)I" } : Jvm.MethodName)) ∈ lw_all := lw_g (lw_at lw_m5 1 rfl) rfl
theorem q1033 : (Jvm.Cond.methodLink "LiarClocksLaw" (77 : Nat) ({ cls := "LiarClocksModel", name := "alarm", desc := "(II)I" } : Jvm.MethodName)) ∈ lw_all := lw_g (lw_at lw_m5 5 rfl) rfl
theorem q1038 : (Jvm.Cond.methodLink "LiarClocksLaw" (81 : Nat) ({ cls := "LiarClocksModel", name := "drift", desc := "(I)I" } : Jvm.MethodName)) ∈ lw_all := lw_g (lw_at lw_m5 10 rfl) rfl
theorem q1054 : (Jvm.Cond.methodLink "LiarClocksLaw" (85 : Nat) ({ cls := "LiarClocksModel", name := "undo", desc := "(I)I" } : Jvm.MethodName)) ∈ lw_all := lw_g (lw_at lw_m5 26 rfl) rfl
theorem q1058 : (Jvm.Cond.methodLink "LiarClocksLaw" (89 : Nat) ({ cls := "LiarClocksModel", name := "behind", desc := "(I)I" } : Jvm.MethodName)) ∈ lw_all := lw_g (lw_at lw_m5 30 rfl) rfl
theorem q1062 : (Jvm.Cond.methodLink "LiarClocksLaw" (93 : Nat) ({ cls := "LiarClocksModel", name := "within", desc := "(I)I" } : Jvm.MethodName)) ∈ lw_all := lw_g (lw_at lw_m5 34 rfl) rfl
theorem q1067 : (Jvm.Cond.methodLink "LiarClocksLaw" (97 : Nat) ({ cls := "LiarClocksModel", name := "write", desc := "(II)I" } : Jvm.MethodName)) ∈ lw_all := lw_g (lw_at lw_m5 39 rfl) rfl
theorem q1071 : (Jvm.Cond.methodLink "LiarClocksLaw" (101 : Nat) ({ cls := "LiarClocksModel", name := "tear", desc := "()I" } : Jvm.MethodName)) ∈ lw_all := lw_g (lw_at lw_m5 43 rfl) rfl
theorem q1075 : (Jvm.Cond.methodLink "LiarClocksLaw" (105 : Nat) ({ cls := "LiarClocksModel", name := "seed", desc := "(I)I" } : Jvm.MethodName)) ∈ lw_all := lw_g (lw_at lw_m5 47 rfl) rfl
theorem q1079 : (Jvm.Cond.methodLink "LiarClocksLaw" (109 : Nat) ({ cls := "LiarClocksModel", name := "keep", desc := "(I)I" } : Jvm.MethodName)) ∈ lw_all := lw_g (lw_at lw_m5 51 rfl) rfl
theorem q1083 : (Jvm.Cond.methodLink "LiarClocksLaw" (113 : Nat) ({ cls := "LiarClocksModel", name := "goBack", desc := "(I)I" } : Jvm.MethodName)) ∈ lw_all := lw_g (lw_at lw_m5 55 rfl) rfl

theorem q81 : (Jvm.Cond.initialized "java/lang/System") ∈ lw_all := lw_g (lw_at lw_m1 13 rfl) rfl
set_option maxRecDepth 100000
theorem q401 : (Jvm.Cond.static ({ cls := "java/lang/System", name := "arraycopy", desc := "(Ljava/lang/Object;ILjava/lang/Object;II)V" } : Jvm.MethodName)) ∈ lw_all := lw_g (lw_at lw_m2 93 rfl) rfl
theorem q402 : (Jvm.Cond.native ({ cls := "java/lang/System", name := "arraycopy", desc := "(Ljava/lang/Object;ILjava/lang/Object;II)V" } : Jvm.MethodName)) ∈ lw_all := lw_g (lw_at lw_m2 94 rfl) rfl

theorem q186 : (Jvm.Cond.arrayClass Jvm.ClassFile.FieldType.int) ∈ lw_all := lw_g (lw_at lw_m1 118 rfl) rfl
set_option maxRecDepth 100000
theorem q187 : (Jvm.Cond.arrayClass Jvm.ClassFile.FieldType.boolean) ∈ lw_all := lw_g (lw_at lw_m1 119 rfl) rfl
theorem q297 : (Jvm.Cond.arrayClass Jvm.ClassFile.FieldType.byte) ∈ lw_all := lw_g (lw_at lw_m1 229 rfl) rfl
theorem q593 : (Jvm.Cond.arrayOver (Jvm.ClassFile.FieldType.object "LiarClocks$House")) ∈ lw_tbl := lw_at lw_m3 45 rfl
