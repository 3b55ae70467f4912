/-! LiarClocks -/
set_option maxRecDepth 100000
def RX0 : String := "LiarClocks"
def TX0 : u_T := fun k => match k with
  | 0 => ("LiarClocks", "now", "LLiarClocks$House;", true)
  | 1 => ("LiarClocks", "trial", "LLiarClocks$House;", true)
  | 2 => ("LiarClocks", "seed", "I", false)
  | 3 => ("LiarClocks", "heard", "[I", true)
  | 4 => ("LiarClocks", "heardMany", "I", false)
  | 5 => ("LiarClocks", "next", "[I", true)
  | 6 => ("LiarClocks", "text", "[B", true)
  | 7 => ("LiarClocks", "texted", "I", false)
  | 8 => ("LiarClocks", "faultPlace", "I", false)
  | 9 => ("LiarClocks", "past", "[LLiarClocks$House;", true)
  | 10 => ("LiarClocks", "pastLast", "I", false)
  | 11 => ("LiarClocks", "pastMany", "I", false)
  | 12 => ("LiarClocks", "rungLast", "I", false)
  | 13 => ("LiarClocks", "booked", "I", false)
  | 14 => ("LiarClocks", "bookOf", "[I", true)
  | 15 => ("LiarClocks", "bookIs", "[I", true)
  | 16 => ("LiarClocks", "images", "[LLiarClocks$House;", true)
  | 17 => ("LiarClocks", "imageSeed", "[I", true)
  | _ => ("LiarClocks", "kept", "[Z", true)
def tyX0 : Nat → FieldType := fun k => match k with
  | 0 => .object "LiarClocks$House"
  | 1 => .object "LiarClocks$House"
  | 2 => .int
  | 3 => .array .int
  | 4 => .int
  | 5 => .array .int
  | 6 => .array .byte
  | 7 => .int
  | 8 => .int
  | 9 => .array (.object "LiarClocks$House")
  | 10 => .int
  | 11 => .int
  | 12 => .int
  | 13 => .int
  | 14 => .array .int
  | 15 => .array .int
  | 16 => .array (.object "LiarClocks$House")
  | 17 => .array .int
  | _ => .array .boolean
abbrev wsX00 : List Cond := u_ws RX0 TX0 19
set_option maxRecDepth 100000 in
theorem nmX0 : ∀ a, a < 19 → ∀ b, b < 19 → a ≠ b → (TX0 a).2.1 ≠ (TX0 b).2.1 := by decide +kernel
set_option maxRecDepth 100000 in
theorem tyX0_ok : ∀ k, k < 19 → parseFieldDescriptor (TX0 k).2.2.1 = some (tyX0 k) := by decide +kernel
abbrev cX0_feed : ByteArray := prog_1_method_10_code
def yX0_feed : MethodName := ⟨RX0, "feed", "(I)I"⟩
def dkwX0_feed_2 : List UInt8 := [42, 180, 0, 123, 172]
abbrev dktX0_feed_2 : List UInt8 := dkwX0_feed_2 ++ []
def dkwX0_feed_1 : List UInt8 := [160, 0, 6, 18, 126, 172, 42, 180, 0, 127, 42, 89, 180, 0, 123, 90, 4, 96, 181, 0, 123, 27, 145, 84]
abbrev dktX0_feed_1 : List UInt8 := dkwX0_feed_1 ++ dktX0_feed_2
def dkwX0_feed_0 : List UInt8 := [27, 133, 9, 20, 0, 116, 184, 0, 118, 154, 0, 6, 18, 122, 172, 42, 180, 0, 123, 17, 0, 200]
abbrev dktX0_feed_0 : List UInt8 := dkwX0_feed_0 ++ dktX0_feed_1
theorem dksX0_feed_0 : cX0_feed.data.toList.drop 0 = dktX0_feed_0 := by decide +kernel
theorem dksX0_feed_1 : cX0_feed.data.toList.drop 22 = dktX0_feed_1 := dk_seg dksX0_feed_0 22 rfl rfl
theorem dksX0_feed_2 : cX0_feed.data.toList.drop 46 = dktX0_feed_2 := dk_seg dksX0_feed_1 24 rfl rfl
theorem dX0_feed_0 : decode cX0_feed 0 = .ok (.iload_n 1, 1) := dk_27 (dk_at dksX0_feed_0 0 rfl rfl)
theorem dX0_feed_1 : decode cX0_feed 1 = .ok (.i2l, 1) := dk_133 (dk_at dksX0_feed_0 1 rfl rfl)
theorem dX0_feed_2 : decode cX0_feed 2 = .ok (.lconst 0, 1) := dk_9 (dk_at dksX0_feed_0 2 rfl rfl)
theorem dX0_feed_3 : decode cX0_feed 3 = .ok (.ldc2_w 116, 3) := dk_20 0 116 (dk_at dksX0_feed_0 3 rfl rfl)
theorem dX0_feed_6 : decode cX0_feed 6 = .ok (.invokestatic 118, 3) := dk_184 0 118 (dk_at dksX0_feed_0 6 rfl rfl)
theorem dX0_feed_9 : decode cX0_feed 9 = .ok (.ifCond .ne 6, 3) := dk_154 0 6 (dk_at dksX0_feed_0 9 rfl rfl)
theorem dX0_feed_12 : decode cX0_feed 12 = .ok (.ldc 122, 2) := dk_18 122 (dk_at dksX0_feed_0 12 rfl rfl)
theorem dX0_feed_14 : decode cX0_feed 14 = .ok (.ireturn, 1) := dk_172 (dk_at dksX0_feed_0 14 rfl rfl)
theorem dX0_feed_15 : decode cX0_feed 15 = .ok (.aload_n 0, 1) := dk_42 (dk_at dksX0_feed_0 15 rfl rfl)
theorem dX0_feed_16 : decode cX0_feed 16 = .ok (.getfield 123, 3) := dk_180 0 123 (dk_at dksX0_feed_0 16 rfl rfl)
theorem dX0_feed_19 : decode cX0_feed 19 = .ok (.sipush 200, 3) := dk_17 0 200 (dk_at dksX0_feed_0 19 rfl rfl)
theorem dX0_feed_22 : decode cX0_feed 22 = .ok (.if_icmp .ne 6, 3) := dk_160 0 6 (dk_at dksX0_feed_1 0 rfl rfl)
theorem dX0_feed_25 : decode cX0_feed 25 = .ok (.ldc 126, 2) := dk_18 126 (dk_at dksX0_feed_1 3 rfl rfl)
theorem dX0_feed_27 : decode cX0_feed 27 = .ok (.ireturn, 1) := dk_172 (dk_at dksX0_feed_1 5 rfl rfl)
theorem dX0_feed_28 : decode cX0_feed 28 = .ok (.aload_n 0, 1) := dk_42 (dk_at dksX0_feed_1 6 rfl rfl)
theorem dX0_feed_29 : decode cX0_feed 29 = .ok (.getfield 127, 3) := dk_180 0 127 (dk_at dksX0_feed_1 7 rfl rfl)
theorem dX0_feed_32 : decode cX0_feed 32 = .ok (.aload_n 0, 1) := dk_42 (dk_at dksX0_feed_1 10 rfl rfl)
theorem dX0_feed_33 : decode cX0_feed 33 = .ok (.dup, 1) := dk_89 (dk_at dksX0_feed_1 11 rfl rfl)
theorem dX0_feed_34 : decode cX0_feed 34 = .ok (.getfield 123, 3) := dk_180 0 123 (dk_at dksX0_feed_1 12 rfl rfl)
theorem dX0_feed_37 : decode cX0_feed 37 = .ok (.dup_x1, 1) := dk_90 (dk_at dksX0_feed_1 15 rfl rfl)
theorem dX0_feed_38 : decode cX0_feed 38 = .ok (.iconst 1, 1) := dk_4 (dk_at dksX0_feed_1 16 rfl rfl)
theorem dX0_feed_39 : decode cX0_feed 39 = .ok (.iadd, 1) := dk_96 (dk_at dksX0_feed_1 17 rfl rfl)
theorem dX0_feed_40 : decode cX0_feed 40 = .ok (.putfield 123, 3) := dk_181 0 123 (dk_at dksX0_feed_1 18 rfl rfl)
theorem dX0_feed_43 : decode cX0_feed 43 = .ok (.iload_n 1, 1) := dk_27 (dk_at dksX0_feed_1 21 rfl rfl)
theorem dX0_feed_44 : decode cX0_feed 44 = .ok (.i2b, 1) := dk_145 (dk_at dksX0_feed_1 22 rfl rfl)
theorem dX0_feed_45 : decode cX0_feed 45 = .ok (.bastore, 1) := dk_84 (dk_at dksX0_feed_1 23 rfl rfl)
theorem dX0_feed_46 : decode cX0_feed 46 = .ok (.aload_n 0, 1) := dk_42 (dk_at dksX0_feed_2 0 rfl rfl)
theorem dX0_feed_47 : decode cX0_feed 47 = .ok (.getfield 123, 3) := dk_180 0 123 (dk_at dksX0_feed_2 1 rfl rfl)
theorem dX0_feed_50 : decode cX0_feed 50 = .ok (.ireturn, 1) := dk_172 (dk_at dksX0_feed_2 4 rfl rfl)
abbrev cX0_isIn : ByteArray := prog_1_method_1_code
def yX0_isIn : MethodName := ⟨RX0, "isIn", "(JJJ)Z"⟩
def dkwX0_isIn_0 : List UInt8 := [30, 32, 148, 155, 0, 14, 30, 22, 4, 148, 157, 0, 7, 4, 167, 0, 4, 3, 172]
abbrev dktX0_isIn_0 : List UInt8 := dkwX0_isIn_0 ++ []
theorem dksX0_isIn_0 : cX0_isIn.data.toList.drop 0 = dktX0_isIn_0 := by decide +kernel
theorem dX0_isIn_0 : decode cX0_isIn 0 = .ok (.lload_n 0, 1) := dk_30 (dk_at dksX0_isIn_0 0 rfl rfl)
theorem dX0_isIn_1 : decode cX0_isIn 1 = .ok (.lload_n 2, 1) := dk_32 (dk_at dksX0_isIn_0 1 rfl rfl)
theorem dX0_isIn_2 : decode cX0_isIn 2 = .ok (.lcmp, 1) := dk_148 (dk_at dksX0_isIn_0 2 rfl rfl)
theorem dX0_isIn_3 : decode cX0_isIn 3 = .ok (.ifCond .lt 14, 3) := dk_155 0 14 (dk_at dksX0_isIn_0 3 rfl rfl)
theorem dX0_isIn_6 : decode cX0_isIn 6 = .ok (.lload_n 0, 1) := dk_30 (dk_at dksX0_isIn_0 6 rfl rfl)
theorem dX0_isIn_7 : decode cX0_isIn 7 = .ok (.lload 4, 2) := dk_22 4 (dk_at dksX0_isIn_0 7 rfl rfl)
theorem dX0_isIn_9 : decode cX0_isIn 9 = .ok (.lcmp, 1) := dk_148 (dk_at dksX0_isIn_0 9 rfl rfl)
theorem dX0_isIn_10 : decode cX0_isIn 10 = .ok (.ifCond .gt 7, 3) := dk_157 0 7 (dk_at dksX0_isIn_0 10 rfl rfl)
theorem dX0_isIn_13 : decode cX0_isIn 13 = .ok (.iconst 1, 1) := dk_4 (dk_at dksX0_isIn_0 13 rfl rfl)
theorem dX0_isIn_14 : decode cX0_isIn 14 = .ok (.goto 4, 3) := dk_167 0 4 (dk_at dksX0_isIn_0 14 rfl rfl)
theorem dX0_isIn_17 : decode cX0_isIn 17 = .ok (.iconst 0, 1) := dk_3 (dk_at dksX0_isIn_0 17 rfl rfl)
theorem dX0_isIn_18 : decode cX0_isIn 18 = .ok (.ireturn, 1) := dk_172 (dk_at dksX0_isIn_0 18 rfl rfl)
abbrev cX0_clocks : ByteArray := prog_1_method_12_code
def yX0_clocks : MethodName := ⟨RX0, "clocks", "()I"⟩
def dkwX0_clocks_2 : List UInt8 := [180, 0, 28, 172]
abbrev dktX0_clocks_2 : List UInt8 := dkwX0_clocks_2 ++ []
def dkwX0_clocks_1 : List UInt8 := [42, 3, 181, 0, 163, 42, 180, 0, 166, 3, 3, 84, 42, 180, 0, 166, 4, 3, 84, 42, 180, 0, 74]
abbrev dktX0_clocks_1 : List UInt8 := dkwX0_clocks_1 ++ dktX0_clocks_2
def dkwX0_clocks_0 : List UInt8 := [42, 182, 0, 157, 60, 42, 3, 181, 0, 123, 27, 158, 0, 8, 16, 246, 27, 100, 172, 42, 3, 181, 0, 160]
abbrev dktX0_clocks_0 : List UInt8 := dkwX0_clocks_0 ++ dktX0_clocks_1
theorem dksX0_clocks_0 : cX0_clocks.data.toList.drop 0 = dktX0_clocks_0 := by decide +kernel
theorem dksX0_clocks_1 : cX0_clocks.data.toList.drop 24 = dktX0_clocks_1 := dk_seg dksX0_clocks_0 24 rfl rfl
theorem dksX0_clocks_2 : cX0_clocks.data.toList.drop 47 = dktX0_clocks_2 := dk_seg dksX0_clocks_1 23 rfl rfl
theorem dX0_clocks_0 : decode cX0_clocks 0 = .ok (.aload_n 0, 1) := dk_42 (dk_at dksX0_clocks_0 0 rfl rfl)
theorem dX0_clocks_1 : decode cX0_clocks 1 = .ok (.invokevirtual 157, 3) := dk_182 0 157 (dk_at dksX0_clocks_0 1 rfl rfl)
theorem dX0_clocks_4 : decode cX0_clocks 4 = .ok (.istore_n 1, 1) := dk_60 (dk_at dksX0_clocks_0 4 rfl rfl)
theorem dX0_clocks_5 : decode cX0_clocks 5 = .ok (.aload_n 0, 1) := dk_42 (dk_at dksX0_clocks_0 5 rfl rfl)
theorem dX0_clocks_6 : decode cX0_clocks 6 = .ok (.iconst 0, 1) := dk_3 (dk_at dksX0_clocks_0 6 rfl rfl)
theorem dX0_clocks_7 : decode cX0_clocks 7 = .ok (.putfield 123, 3) := dk_181 0 123 (dk_at dksX0_clocks_0 7 rfl rfl)
theorem dX0_clocks_10 : decode cX0_clocks 10 = .ok (.iload_n 1, 1) := dk_27 (dk_at dksX0_clocks_0 10 rfl rfl)
theorem dX0_clocks_11 : decode cX0_clocks 11 = .ok (.ifCond .le 8, 3) := dk_158 0 8 (dk_at dksX0_clocks_0 11 rfl rfl)
theorem dX0_clocks_14 : decode cX0_clocks 14 = .ok (.bipush (-10), 2) := dk_16 246 (dk_at dksX0_clocks_0 14 rfl rfl)
theorem dX0_clocks_16 : decode cX0_clocks 16 = .ok (.iload_n 1, 1) := dk_27 (dk_at dksX0_clocks_0 16 rfl rfl)
theorem dX0_clocks_17 : decode cX0_clocks 17 = .ok (.isub, 1) := dk_100 (dk_at dksX0_clocks_0 17 rfl rfl)
theorem dX0_clocks_18 : decode cX0_clocks 18 = .ok (.ireturn, 1) := dk_172 (dk_at dksX0_clocks_0 18 rfl rfl)
theorem dX0_clocks_19 : decode cX0_clocks 19 = .ok (.aload_n 0, 1) := dk_42 (dk_at dksX0_clocks_0 19 rfl rfl)
theorem dX0_clocks_20 : decode cX0_clocks 20 = .ok (.iconst 0, 1) := dk_3 (dk_at dksX0_clocks_0 20 rfl rfl)
theorem dX0_clocks_21 : decode cX0_clocks 21 = .ok (.putfield 160, 3) := dk_181 0 160 (dk_at dksX0_clocks_0 21 rfl rfl)
theorem dX0_clocks_24 : decode cX0_clocks 24 = .ok (.aload_n 0, 1) := dk_42 (dk_at dksX0_clocks_1 0 rfl rfl)
theorem dX0_clocks_25 : decode cX0_clocks 25 = .ok (.iconst 0, 1) := dk_3 (dk_at dksX0_clocks_1 1 rfl rfl)
theorem dX0_clocks_26 : decode cX0_clocks 26 = .ok (.putfield 163, 3) := dk_181 0 163 (dk_at dksX0_clocks_1 2 rfl rfl)
theorem dX0_clocks_29 : decode cX0_clocks 29 = .ok (.aload_n 0, 1) := dk_42 (dk_at dksX0_clocks_1 5 rfl rfl)
theorem dX0_clocks_30 : decode cX0_clocks 30 = .ok (.getfield 166, 3) := dk_180 0 166 (dk_at dksX0_clocks_1 6 rfl rfl)
theorem dX0_clocks_33 : decode cX0_clocks 33 = .ok (.iconst 0, 1) := dk_3 (dk_at dksX0_clocks_1 9 rfl rfl)
theorem dX0_clocks_34 : decode cX0_clocks 34 = .ok (.iconst 0, 1) := dk_3 (dk_at dksX0_clocks_1 10 rfl rfl)
theorem dX0_clocks_35 : decode cX0_clocks 35 = .ok (.bastore, 1) := dk_84 (dk_at dksX0_clocks_1 11 rfl rfl)
theorem dX0_clocks_36 : decode cX0_clocks 36 = .ok (.aload_n 0, 1) := dk_42 (dk_at dksX0_clocks_1 12 rfl rfl)
theorem dX0_clocks_37 : decode cX0_clocks 37 = .ok (.getfield 166, 3) := dk_180 0 166 (dk_at dksX0_clocks_1 13 rfl rfl)
theorem dX0_clocks_40 : decode cX0_clocks 40 = .ok (.iconst 1, 1) := dk_4 (dk_at dksX0_clocks_1 16 rfl rfl)
theorem dX0_clocks_41 : decode cX0_clocks 41 = .ok (.iconst 0, 1) := dk_3 (dk_at dksX0_clocks_1 17 rfl rfl)
theorem dX0_clocks_42 : decode cX0_clocks 42 = .ok (.bastore, 1) := dk_84 (dk_at dksX0_clocks_1 18 rfl rfl)
theorem dX0_clocks_43 : decode cX0_clocks 43 = .ok (.aload_n 0, 1) := dk_42 (dk_at dksX0_clocks_1 19 rfl rfl)
theorem dX0_clocks_44 : decode cX0_clocks 44 = .ok (.getfield 74, 3) := dk_180 0 74 (dk_at dksX0_clocks_1 20 rfl rfl)
theorem dX0_clocks_47 : decode cX0_clocks 47 = .ok (.getfield 28, 3) := dk_180 0 28 (dk_at dksX0_clocks_2 0 rfl rfl)
theorem dX0_clocks_50 : decode cX0_clocks 50 = .ok (.ireturn, 1) := dk_172 (dk_at dksX0_clocks_2 3 rfl rfl)
abbrev cX0_readText : ByteArray := prog_1_method_11_code
def yX0_readText : MethodName := ⟨RX0, "readText", "()I"⟩
def dkwX0_readText_1 : List UInt8 := [180, 0, 142, 182, 0, 145, 3, 172, 76, 42, 43, 180, 0, 151, 181, 0, 131, 43, 182, 0, 154, 172]
abbrev dktX0_readText_1 : List UInt8 := dkwX0_readText_1 ++ []
def dkwX0_readText_0 : List UInt8 := [42, 2, 181, 0, 131, 187, 0, 134, 89, 42, 183, 0, 136, 76, 43, 182, 0, 139, 42, 180, 0, 74, 43]
abbrev dktX0_readText_0 : List UInt8 := dkwX0_readText_0 ++ dktX0_readText_1
theorem dksX0_readText_0 : cX0_readText.data.toList.drop 0 = dktX0_readText_0 := by decide +kernel
theorem dksX0_readText_1 : cX0_readText.data.toList.drop 23 = dktX0_readText_1 := dk_seg dksX0_readText_0 23 rfl rfl
theorem dX0_readText_0 : decode cX0_readText 0 = .ok (.aload_n 0, 1) := dk_42 (dk_at dksX0_readText_0 0 rfl rfl)
theorem dX0_readText_1 : decode cX0_readText 1 = .ok (.iconst (-1), 1) := dk_2 (dk_at dksX0_readText_0 1 rfl rfl)
theorem dX0_readText_2 : decode cX0_readText 2 = .ok (.putfield 131, 3) := dk_181 0 131 (dk_at dksX0_readText_0 2 rfl rfl)
theorem dX0_readText_5 : decode cX0_readText 5 = .ok (.new 134, 3) := dk_187 0 134 (dk_at dksX0_readText_0 5 rfl rfl)
theorem dX0_readText_8 : decode cX0_readText 8 = .ok (.dup, 1) := dk_89 (dk_at dksX0_readText_0 8 rfl rfl)
theorem dX0_readText_9 : decode cX0_readText 9 = .ok (.aload_n 0, 1) := dk_42 (dk_at dksX0_readText_0 9 rfl rfl)
theorem dX0_readText_10 : decode cX0_readText 10 = .ok (.invokespecial 136, 3) := dk_183 0 136 (dk_at dksX0_readText_0 10 rfl rfl)
theorem dX0_readText_13 : decode cX0_readText 13 = .ok (.astore_n 1, 1) := dk_76 (dk_at dksX0_readText_0 13 rfl rfl)
theorem dX0_readText_14 : decode cX0_readText 14 = .ok (.aload_n 1, 1) := dk_43 (dk_at dksX0_readText_0 14 rfl rfl)
theorem dX0_readText_15 : decode cX0_readText 15 = .ok (.invokevirtual 139, 3) := dk_182 0 139 (dk_at dksX0_readText_0 15 rfl rfl)
theorem dX0_readText_18 : decode cX0_readText 18 = .ok (.aload_n 0, 1) := dk_42 (dk_at dksX0_readText_0 18 rfl rfl)
theorem dX0_readText_19 : decode cX0_readText 19 = .ok (.getfield 74, 3) := dk_180 0 74 (dk_at dksX0_readText_0 19 rfl rfl)
theorem dX0_readText_22 : decode cX0_readText 22 = .ok (.aload_n 1, 1) := dk_43 (dk_at dksX0_readText_0 22 rfl rfl)
theorem dX0_readText_23 : decode cX0_readText 23 = .ok (.getfield 142, 3) := dk_180 0 142 (dk_at dksX0_readText_1 0 rfl rfl)
theorem dX0_readText_26 : decode cX0_readText 26 = .ok (.invokevirtual 145, 3) := dk_182 0 145 (dk_at dksX0_readText_1 3 rfl rfl)
theorem dX0_readText_29 : decode cX0_readText 29 = .ok (.iconst 0, 1) := dk_3 (dk_at dksX0_readText_1 6 rfl rfl)
theorem dX0_readText_30 : decode cX0_readText 30 = .ok (.ireturn, 1) := dk_172 (dk_at dksX0_readText_1 7 rfl rfl)
theorem dX0_readText_31 : decode cX0_readText 31 = .ok (.astore_n 1, 1) := dk_76 (dk_at dksX0_readText_1 8 rfl rfl)
theorem dX0_readText_32 : decode cX0_readText 32 = .ok (.aload_n 0, 1) := dk_42 (dk_at dksX0_readText_1 9 rfl rfl)
theorem dX0_readText_33 : decode cX0_readText 33 = .ok (.aload_n 1, 1) := dk_43 (dk_at dksX0_readText_1 10 rfl rfl)
theorem dX0_readText_34 : decode cX0_readText 34 = .ok (.getfield 151, 3) := dk_180 0 151 (dk_at dksX0_readText_1 11 rfl rfl)
theorem dX0_readText_37 : decode cX0_readText 37 = .ok (.putfield 131, 3) := dk_181 0 131 (dk_at dksX0_readText_1 14 rfl rfl)
theorem dX0_readText_40 : decode cX0_readText 40 = .ok (.aload_n 1, 1) := dk_43 (dk_at dksX0_readText_1 17 rfl rfl)
theorem dX0_readText_41 : decode cX0_readText 41 = .ok (.invokevirtual 154, 3) := dk_182 0 154 (dk_at dksX0_readText_1 18 rfl rfl)
theorem dX0_readText_44 : decode cX0_readText 44 = .ok (.ireturn, 1) := dk_172 (dk_at dksX0_readText_1 21 rfl rfl)
abbrev cX0_fault : ByteArray := prog_1_method_13_code
def yX0_fault : MethodName := ⟨RX0, "fault", "()I"⟩
theorem dX0_fault_0 : decode cX0_fault 0 = .ok (.aload_n 0, 1) := by decide +kernel
theorem dX0_fault_1 : decode cX0_fault 1 = .ok (.getfield 131, 3) := by decide +kernel
theorem dX0_fault_4 : decode cX0_fault 4 = .ok (.ireturn, 1) := by decide +kernel
abbrev cX0_told : ByteArray := prog_1_method_15_code
def yX0_told : MethodName := ⟨RX0, "told", "(I)I"⟩
def dkwX0_told_7 : List UInt8 := [180, 0, 163, 172, 18, 122, 172]
abbrev dktX0_told_7 : List UInt8 := dkwX0_told_7 ++ []
def dkwX0_told_6 : List UInt8 := [182, 0, 184, 172, 42, 180, 0, 74, 180, 0, 187, 172, 42, 180, 0, 160, 172, 42, 182, 0, 190, 172, 42]
abbrev dktX0_told_6 : List UInt8 := dkwX0_told_6 ++ dktX0_told_7
def dkwX0_told_5 : List UInt8 := [182, 0, 102, 172, 42, 182, 0, 178, 172, 42, 182, 0, 181, 172, 42, 180, 0, 74, 180, 0, 169, 172, 42]
abbrev dktX0_told_5 : List UInt8 := dkwX0_told_5 ++ dktX0_told_6
def dkwX0_told_4 : List UInt8 := [42, 180, 0, 74, 180, 0, 82, 182, 0, 105, 172, 42, 180, 0, 74, 182, 0, 93, 172, 42, 180, 0, 74]
abbrev dktX0_told_4 : List UInt8 := dkwX0_told_4 ++ dktX0_told_5
def dkwX0_told_3 : List UInt8 := [42, 180, 0, 123, 172, 42, 180, 0, 74, 42, 180, 0, 74, 180, 0, 78, 182, 0, 105, 172, 42, 180, 0, 74]
abbrev dktX0_told_3 : List UInt8 := dkwX0_told_3 ++ dktX0_told_4
def dkwX0_told_2 : List UInt8 := [42, 180, 0, 74, 180, 0, 28, 172, 42, 180, 0, 74, 180, 0, 40, 172, 42, 180, 0, 74, 180, 0, 175, 172]
abbrev dktX0_told_2 : List UInt8 := dkwX0_told_2 ++ dktX0_told_3
def dkwX0_told_1 : List UInt8 := [170, 0, 0, 0, 0, 0, 200, 0, 0, 0, 0, 0, 0, 0, 15, 0, 0, 0, 79, 0, 0, 0, 87, 0, 0, 0, 95, 0, 0, 0, 103, 0, 0, 0, 108, 0, 0, 0, 123, 0, 0, 0, 138, 0, 0, 0, 146, 0, 0, 0, 154, 0, 0, 0, 159, 0, 0, 0, 164, 0, 0, 0, 172, 0, 0, 0, 177, 0, 0, 0, 185, 0, 0, 0, 190, 0, 0, 0, 195]
abbrev dktX0_told_1 : List UInt8 := dkwX0_told_1 ++ dktX0_told_2
def dkwX0_told_0 : List UInt8 := [27]
abbrev dktX0_told_0 : List UInt8 := dkwX0_told_0 ++ dktX0_told_1
theorem dksX0_told_0 : cX0_told.data.toList.drop 0 = dktX0_told_0 := by decide +kernel
theorem dksX0_told_1 : cX0_told.data.toList.drop 1 = dktX0_told_1 := dk_seg dksX0_told_0 1 rfl rfl
theorem dksX0_told_2 : cX0_told.data.toList.drop 80 = dktX0_told_2 := dk_seg dksX0_told_1 79 rfl rfl
theorem dksX0_told_3 : cX0_told.data.toList.drop 104 = dktX0_told_3 := dk_seg dksX0_told_2 24 rfl rfl
theorem dksX0_told_4 : cX0_told.data.toList.drop 128 = dktX0_told_4 := dk_seg dksX0_told_3 24 rfl rfl
theorem dksX0_told_5 : cX0_told.data.toList.drop 151 = dktX0_told_5 := dk_seg dksX0_told_4 23 rfl rfl
theorem dksX0_told_6 : cX0_told.data.toList.drop 174 = dktX0_told_6 := dk_seg dksX0_told_5 23 rfl rfl
theorem dksX0_told_7 : cX0_told.data.toList.drop 197 = dktX0_told_7 := dk_seg dksX0_told_6 23 rfl rfl
theorem dX0_told_0 : decode cX0_told 0 = .ok (.iload_n 1, 1) := dk_27 (dk_at dksX0_told_0 0 rfl rfl)
theorem dX0_told_1 : decode cX0_told 1 = .ok (.tableswitch 200 0 15 #[79, 87, 95, 103, 108, 123, 138, 146, 154, 159, 164, 172, 177, 185, 190, 195], 79) := by decide +kernel
theorem dX0_told_80 : decode cX0_told 80 = .ok (.aload_n 0, 1) := dk_42 (dk_at dksX0_told_2 0 rfl rfl)
theorem dX0_told_81 : decode cX0_told 81 = .ok (.getfield 74, 3) := dk_180 0 74 (dk_at dksX0_told_2 1 rfl rfl)
theorem dX0_told_84 : decode cX0_told 84 = .ok (.getfield 28, 3) := dk_180 0 28 (dk_at dksX0_told_2 4 rfl rfl)
theorem dX0_told_87 : decode cX0_told 87 = .ok (.ireturn, 1) := dk_172 (dk_at dksX0_told_2 7 rfl rfl)
theorem dX0_told_88 : decode cX0_told 88 = .ok (.aload_n 0, 1) := dk_42 (dk_at dksX0_told_2 8 rfl rfl)
theorem dX0_told_89 : decode cX0_told 89 = .ok (.getfield 74, 3) := dk_180 0 74 (dk_at dksX0_told_2 9 rfl rfl)
theorem dX0_told_92 : decode cX0_told 92 = .ok (.getfield 40, 3) := dk_180 0 40 (dk_at dksX0_told_2 12 rfl rfl)
theorem dX0_told_95 : decode cX0_told 95 = .ok (.ireturn, 1) := dk_172 (dk_at dksX0_told_2 15 rfl rfl)
theorem dX0_told_96 : decode cX0_told 96 = .ok (.aload_n 0, 1) := dk_42 (dk_at dksX0_told_2 16 rfl rfl)
theorem dX0_told_97 : decode cX0_told 97 = .ok (.getfield 74, 3) := dk_180 0 74 (dk_at dksX0_told_2 17 rfl rfl)
theorem dX0_told_100 : decode cX0_told 100 = .ok (.getfield 175, 3) := dk_180 0 175 (dk_at dksX0_told_2 20 rfl rfl)
theorem dX0_told_103 : decode cX0_told 103 = .ok (.ireturn, 1) := dk_172 (dk_at dksX0_told_2 23 rfl rfl)
theorem dX0_told_104 : decode cX0_told 104 = .ok (.aload_n 0, 1) := dk_42 (dk_at dksX0_told_3 0 rfl rfl)
theorem dX0_told_105 : decode cX0_told 105 = .ok (.getfield 123, 3) := dk_180 0 123 (dk_at dksX0_told_3 1 rfl rfl)
theorem dX0_told_108 : decode cX0_told 108 = .ok (.ireturn, 1) := dk_172 (dk_at dksX0_told_3 4 rfl rfl)
theorem dX0_told_109 : decode cX0_told 109 = .ok (.aload_n 0, 1) := dk_42 (dk_at dksX0_told_3 5 rfl rfl)
theorem dX0_told_110 : decode cX0_told 110 = .ok (.getfield 74, 3) := dk_180 0 74 (dk_at dksX0_told_3 6 rfl rfl)
theorem dX0_told_113 : decode cX0_told 113 = .ok (.aload_n 0, 1) := dk_42 (dk_at dksX0_told_3 9 rfl rfl)
theorem dX0_told_114 : decode cX0_told 114 = .ok (.getfield 74, 3) := dk_180 0 74 (dk_at dksX0_told_3 10 rfl rfl)
theorem dX0_told_117 : decode cX0_told 117 = .ok (.getfield 78, 3) := dk_180 0 78 (dk_at dksX0_told_3 13 rfl rfl)
theorem dX0_told_120 : decode cX0_told 120 = .ok (.invokevirtual 105, 3) := dk_182 0 105 (dk_at dksX0_told_3 16 rfl rfl)
theorem dX0_told_123 : decode cX0_told 123 = .ok (.ireturn, 1) := dk_172 (dk_at dksX0_told_3 19 rfl rfl)
theorem dX0_told_124 : decode cX0_told 124 = .ok (.aload_n 0, 1) := dk_42 (dk_at dksX0_told_3 20 rfl rfl)
theorem dX0_told_125 : decode cX0_told 125 = .ok (.getfield 74, 3) := dk_180 0 74 (dk_at dksX0_told_3 21 rfl rfl)
theorem dX0_told_128 : decode cX0_told 128 = .ok (.aload_n 0, 1) := dk_42 (dk_at dksX0_told_4 0 rfl rfl)
theorem dX0_told_129 : decode cX0_told 129 = .ok (.getfield 74, 3) := dk_180 0 74 (dk_at dksX0_told_4 1 rfl rfl)
theorem dX0_told_132 : decode cX0_told 132 = .ok (.getfield 82, 3) := dk_180 0 82 (dk_at dksX0_told_4 4 rfl rfl)
theorem dX0_told_135 : decode cX0_told 135 = .ok (.invokevirtual 105, 3) := dk_182 0 105 (dk_at dksX0_told_4 7 rfl rfl)
theorem dX0_told_138 : decode cX0_told 138 = .ok (.ireturn, 1) := dk_172 (dk_at dksX0_told_4 10 rfl rfl)
theorem dX0_told_139 : decode cX0_told 139 = .ok (.aload_n 0, 1) := dk_42 (dk_at dksX0_told_4 11 rfl rfl)
theorem dX0_told_140 : decode cX0_told 140 = .ok (.getfield 74, 3) := dk_180 0 74 (dk_at dksX0_told_4 12 rfl rfl)
theorem dX0_told_143 : decode cX0_told 143 = .ok (.invokevirtual 93, 3) := dk_182 0 93 (dk_at dksX0_told_4 15 rfl rfl)
theorem dX0_told_146 : decode cX0_told 146 = .ok (.ireturn, 1) := dk_172 (dk_at dksX0_told_4 18 rfl rfl)
theorem dX0_told_147 : decode cX0_told 147 = .ok (.aload_n 0, 1) := dk_42 (dk_at dksX0_told_4 19 rfl rfl)
theorem dX0_told_148 : decode cX0_told 148 = .ok (.getfield 74, 3) := dk_180 0 74 (dk_at dksX0_told_4 20 rfl rfl)
theorem dX0_told_151 : decode cX0_told 151 = .ok (.invokevirtual 102, 3) := dk_182 0 102 (dk_at dksX0_told_5 0 rfl rfl)
theorem dX0_told_154 : decode cX0_told 154 = .ok (.ireturn, 1) := dk_172 (dk_at dksX0_told_5 3 rfl rfl)
theorem dX0_told_155 : decode cX0_told 155 = .ok (.aload_n 0, 1) := dk_42 (dk_at dksX0_told_5 4 rfl rfl)
theorem dX0_told_156 : decode cX0_told 156 = .ok (.invokevirtual 178, 3) := dk_182 0 178 (dk_at dksX0_told_5 5 rfl rfl)
theorem dX0_told_159 : decode cX0_told 159 = .ok (.ireturn, 1) := dk_172 (dk_at dksX0_told_5 8 rfl rfl)
theorem dX0_told_160 : decode cX0_told 160 = .ok (.aload_n 0, 1) := dk_42 (dk_at dksX0_told_5 9 rfl rfl)
theorem dX0_told_161 : decode cX0_told 161 = .ok (.invokevirtual 181, 3) := dk_182 0 181 (dk_at dksX0_told_5 10 rfl rfl)
theorem dX0_told_164 : decode cX0_told 164 = .ok (.ireturn, 1) := dk_172 (dk_at dksX0_told_5 13 rfl rfl)
theorem dX0_told_165 : decode cX0_told 165 = .ok (.aload_n 0, 1) := dk_42 (dk_at dksX0_told_5 14 rfl rfl)
theorem dX0_told_166 : decode cX0_told 166 = .ok (.getfield 74, 3) := dk_180 0 74 (dk_at dksX0_told_5 15 rfl rfl)
theorem dX0_told_169 : decode cX0_told 169 = .ok (.getfield 169, 3) := dk_180 0 169 (dk_at dksX0_told_5 18 rfl rfl)
theorem dX0_told_172 : decode cX0_told 172 = .ok (.ireturn, 1) := dk_172 (dk_at dksX0_told_5 21 rfl rfl)
theorem dX0_told_173 : decode cX0_told 173 = .ok (.aload_n 0, 1) := dk_42 (dk_at dksX0_told_5 22 rfl rfl)
theorem dX0_told_174 : decode cX0_told 174 = .ok (.invokevirtual 184, 3) := dk_182 0 184 (dk_at dksX0_told_6 0 rfl rfl)
theorem dX0_told_177 : decode cX0_told 177 = .ok (.ireturn, 1) := dk_172 (dk_at dksX0_told_6 3 rfl rfl)
theorem dX0_told_178 : decode cX0_told 178 = .ok (.aload_n 0, 1) := dk_42 (dk_at dksX0_told_6 4 rfl rfl)
theorem dX0_told_179 : decode cX0_told 179 = .ok (.getfield 74, 3) := dk_180 0 74 (dk_at dksX0_told_6 5 rfl rfl)
theorem dX0_told_182 : decode cX0_told 182 = .ok (.getfield 187, 3) := dk_180 0 187 (dk_at dksX0_told_6 8 rfl rfl)
theorem dX0_told_185 : decode cX0_told 185 = .ok (.ireturn, 1) := dk_172 (dk_at dksX0_told_6 11 rfl rfl)
theorem dX0_told_186 : decode cX0_told 186 = .ok (.aload_n 0, 1) := dk_42 (dk_at dksX0_told_6 12 rfl rfl)
theorem dX0_told_187 : decode cX0_told 187 = .ok (.getfield 160, 3) := dk_180 0 160 (dk_at dksX0_told_6 13 rfl rfl)
theorem dX0_told_190 : decode cX0_told 190 = .ok (.ireturn, 1) := dk_172 (dk_at dksX0_told_6 16 rfl rfl)
theorem dX0_told_191 : decode cX0_told 191 = .ok (.aload_n 0, 1) := dk_42 (dk_at dksX0_told_6 17 rfl rfl)
theorem dX0_told_192 : decode cX0_told 192 = .ok (.invokevirtual 190, 3) := dk_182 0 190 (dk_at dksX0_told_6 18 rfl rfl)
theorem dX0_told_195 : decode cX0_told 195 = .ok (.ireturn, 1) := dk_172 (dk_at dksX0_told_6 21 rfl rfl)
theorem dX0_told_196 : decode cX0_told 196 = .ok (.aload_n 0, 1) := dk_42 (dk_at dksX0_told_6 22 rfl rfl)
theorem dX0_told_197 : decode cX0_told 197 = .ok (.getfield 163, 3) := dk_180 0 163 (dk_at dksX0_told_7 0 rfl rfl)
theorem dX0_told_200 : decode cX0_told 200 = .ok (.ireturn, 1) := dk_172 (dk_at dksX0_told_7 3 rfl rfl)
theorem dX0_told_201 : decode cX0_told 201 = .ok (.ldc 122, 2) := dk_18 122 (dk_at dksX0_told_7 4 rfl rfl)
theorem dX0_told_203 : decode cX0_told 203 = .ok (.ireturn, 1) := dk_172 (dk_at dksX0_told_7 6 rfl rfl)
abbrev cX0_worst : ByteArray := prog_1_method_8_code
def yX0_worst : MethodName := ⟨RX0, "worst", "()I"⟩
def dkwX0_worst_3 : List UInt8 := [180, 0, 40, 164, 0, 8, 18, 112, 167, 0, 4, 29, 172, 78, 42, 180, 0, 74, 182, 0, 102, 172]
abbrev dktX0_worst_3 : List UInt8 := dkwX0_worst_3 ++ []
def dkwX0_worst_2 : List UInt8 := [180, 0, 82, 182, 0, 105, 2, 130, 126, 184, 0, 97, 61, 42, 27, 182, 0, 109, 62, 28, 42, 180, 0, 74]
abbrev dktX0_worst_2 : List UInt8 := dkwX0_worst_2 ++ dktX0_worst_3
def dkwX0_worst_1 : List UInt8 := [42, 180, 0, 74, 42, 180, 0, 74, 180, 0, 78, 182, 0, 105, 42, 180, 0, 74, 42, 180, 0, 74]
abbrev dktX0_worst_1 : List UInt8 := dkwX0_worst_1 ++ dktX0_worst_2
def dkwX0_worst_0 : List UInt8 := [42, 180, 0, 74, 182, 0, 93, 60, 27, 184, 0, 97, 5, 162, 0, 11, 42, 180, 0, 74, 182, 0, 102, 172]
abbrev dktX0_worst_0 : List UInt8 := dkwX0_worst_0 ++ dktX0_worst_1
theorem dksX0_worst_0 : cX0_worst.data.toList.drop 0 = dktX0_worst_0 := by decide +kernel
theorem dksX0_worst_1 : cX0_worst.data.toList.drop 24 = dktX0_worst_1 := dk_seg dksX0_worst_0 24 rfl rfl
theorem dksX0_worst_2 : cX0_worst.data.toList.drop 46 = dktX0_worst_2 := dk_seg dksX0_worst_1 22 rfl rfl
theorem dksX0_worst_3 : cX0_worst.data.toList.drop 70 = dktX0_worst_3 := dk_seg dksX0_worst_2 24 rfl rfl
theorem dX0_worst_0 : decode cX0_worst 0 = .ok (.aload_n 0, 1) := dk_42 (dk_at dksX0_worst_0 0 rfl rfl)
theorem dX0_worst_1 : decode cX0_worst 1 = .ok (.getfield 74, 3) := dk_180 0 74 (dk_at dksX0_worst_0 1 rfl rfl)
theorem dX0_worst_4 : decode cX0_worst 4 = .ok (.invokevirtual 93, 3) := dk_182 0 93 (dk_at dksX0_worst_0 4 rfl rfl)
theorem dX0_worst_7 : decode cX0_worst 7 = .ok (.istore_n 1, 1) := dk_60 (dk_at dksX0_worst_0 7 rfl rfl)
theorem dX0_worst_8 : decode cX0_worst 8 = .ok (.iload_n 1, 1) := dk_27 (dk_at dksX0_worst_0 8 rfl rfl)
theorem dX0_worst_9 : decode cX0_worst 9 = .ok (.invokestatic 97, 3) := dk_184 0 97 (dk_at dksX0_worst_0 9 rfl rfl)
theorem dX0_worst_12 : decode cX0_worst 12 = .ok (.iconst 2, 1) := dk_5 (dk_at dksX0_worst_0 12 rfl rfl)
theorem dX0_worst_13 : decode cX0_worst 13 = .ok (.if_icmp .ge 11, 3) := dk_162 0 11 (dk_at dksX0_worst_0 13 rfl rfl)
theorem dX0_worst_16 : decode cX0_worst 16 = .ok (.aload_n 0, 1) := dk_42 (dk_at dksX0_worst_0 16 rfl rfl)
theorem dX0_worst_17 : decode cX0_worst 17 = .ok (.getfield 74, 3) := dk_180 0 74 (dk_at dksX0_worst_0 17 rfl rfl)
theorem dX0_worst_20 : decode cX0_worst 20 = .ok (.invokevirtual 102, 3) := dk_182 0 102 (dk_at dksX0_worst_0 20 rfl rfl)
theorem dX0_worst_23 : decode cX0_worst 23 = .ok (.ireturn, 1) := dk_172 (dk_at dksX0_worst_0 23 rfl rfl)
theorem dX0_worst_24 : decode cX0_worst 24 = .ok (.aload_n 0, 1) := dk_42 (dk_at dksX0_worst_1 0 rfl rfl)
theorem dX0_worst_25 : decode cX0_worst 25 = .ok (.getfield 74, 3) := dk_180 0 74 (dk_at dksX0_worst_1 1 rfl rfl)
theorem dX0_worst_28 : decode cX0_worst 28 = .ok (.aload_n 0, 1) := dk_42 (dk_at dksX0_worst_1 4 rfl rfl)
theorem dX0_worst_29 : decode cX0_worst 29 = .ok (.getfield 74, 3) := dk_180 0 74 (dk_at dksX0_worst_1 5 rfl rfl)
theorem dX0_worst_32 : decode cX0_worst 32 = .ok (.getfield 78, 3) := dk_180 0 78 (dk_at dksX0_worst_1 8 rfl rfl)
theorem dX0_worst_35 : decode cX0_worst 35 = .ok (.invokevirtual 105, 3) := dk_182 0 105 (dk_at dksX0_worst_1 11 rfl rfl)
theorem dX0_worst_38 : decode cX0_worst 38 = .ok (.aload_n 0, 1) := dk_42 (dk_at dksX0_worst_1 14 rfl rfl)
theorem dX0_worst_39 : decode cX0_worst 39 = .ok (.getfield 74, 3) := dk_180 0 74 (dk_at dksX0_worst_1 15 rfl rfl)
theorem dX0_worst_42 : decode cX0_worst 42 = .ok (.aload_n 0, 1) := dk_42 (dk_at dksX0_worst_1 18 rfl rfl)
theorem dX0_worst_43 : decode cX0_worst 43 = .ok (.getfield 74, 3) := dk_180 0 74 (dk_at dksX0_worst_1 19 rfl rfl)
theorem dX0_worst_46 : decode cX0_worst 46 = .ok (.getfield 82, 3) := dk_180 0 82 (dk_at dksX0_worst_2 0 rfl rfl)
theorem dX0_worst_49 : decode cX0_worst 49 = .ok (.invokevirtual 105, 3) := dk_182 0 105 (dk_at dksX0_worst_2 3 rfl rfl)
theorem dX0_worst_52 : decode cX0_worst 52 = .ok (.iconst (-1), 1) := dk_2 (dk_at dksX0_worst_2 6 rfl rfl)
theorem dX0_worst_53 : decode cX0_worst 53 = .ok (.ixor, 1) := dk_130 (dk_at dksX0_worst_2 7 rfl rfl)
theorem dX0_worst_54 : decode cX0_worst 54 = .ok (.iand, 1) := dk_126 (dk_at dksX0_worst_2 8 rfl rfl)
theorem dX0_worst_55 : decode cX0_worst 55 = .ok (.invokestatic 97, 3) := dk_184 0 97 (dk_at dksX0_worst_2 9 rfl rfl)
theorem dX0_worst_58 : decode cX0_worst 58 = .ok (.istore_n 2, 1) := dk_61 (dk_at dksX0_worst_2 12 rfl rfl)
theorem dX0_worst_59 : decode cX0_worst 59 = .ok (.aload_n 0, 1) := dk_42 (dk_at dksX0_worst_2 13 rfl rfl)
theorem dX0_worst_60 : decode cX0_worst 60 = .ok (.iload_n 1, 1) := dk_27 (dk_at dksX0_worst_2 14 rfl rfl)
theorem dX0_worst_61 : decode cX0_worst 61 = .ok (.invokevirtual 109, 3) := dk_182 0 109 (dk_at dksX0_worst_2 15 rfl rfl)
theorem dX0_worst_64 : decode cX0_worst 64 = .ok (.istore_n 3, 1) := dk_62 (dk_at dksX0_worst_2 18 rfl rfl)
theorem dX0_worst_65 : decode cX0_worst 65 = .ok (.iload_n 2, 1) := dk_28 (dk_at dksX0_worst_2 19 rfl rfl)
theorem dX0_worst_66 : decode cX0_worst 66 = .ok (.aload_n 0, 1) := dk_42 (dk_at dksX0_worst_2 20 rfl rfl)
theorem dX0_worst_67 : decode cX0_worst 67 = .ok (.getfield 74, 3) := dk_180 0 74 (dk_at dksX0_worst_2 21 rfl rfl)
theorem dX0_worst_70 : decode cX0_worst 70 = .ok (.getfield 40, 3) := dk_180 0 40 (dk_at dksX0_worst_3 0 rfl rfl)
theorem dX0_worst_73 : decode cX0_worst 73 = .ok (.if_icmp .le 8, 3) := dk_164 0 8 (dk_at dksX0_worst_3 3 rfl rfl)
theorem dX0_worst_76 : decode cX0_worst 76 = .ok (.ldc 112, 2) := dk_18 112 (dk_at dksX0_worst_3 6 rfl rfl)
theorem dX0_worst_78 : decode cX0_worst 78 = .ok (.goto 4, 3) := dk_167 0 4 (dk_at dksX0_worst_3 8 rfl rfl)
theorem dX0_worst_81 : decode cX0_worst 81 = .ok (.iload_n 3, 1) := dk_29 (dk_at dksX0_worst_3 11 rfl rfl)
theorem dX0_worst_82 : decode cX0_worst 82 = .ok (.ireturn, 1) := dk_172 (dk_at dksX0_worst_3 12 rfl rfl)
theorem dX0_worst_83 : decode cX0_worst 83 = .ok (.astore_n 3, 1) := dk_78 (dk_at dksX0_worst_3 13 rfl rfl)
theorem dX0_worst_84 : decode cX0_worst 84 = .ok (.aload_n 0, 1) := dk_42 (dk_at dksX0_worst_3 14 rfl rfl)
theorem dX0_worst_85 : decode cX0_worst 85 = .ok (.getfield 74, 3) := dk_180 0 74 (dk_at dksX0_worst_3 15 rfl rfl)
theorem dX0_worst_88 : decode cX0_worst 88 = .ok (.invokevirtual 102, 3) := dk_182 0 102 (dk_at dksX0_worst_3 18 rfl rfl)
theorem dX0_worst_91 : decode cX0_worst 91 = .ok (.ireturn, 1) := dk_172 (dk_at dksX0_worst_3 21 rfl rfl)
abbrev cX0_worstOf : ByteArray := prog_1_method_7_code
def yX0_worstOf : MethodName := ⟨RX0, "worstOf", "(I)I"⟩
def dkwX0_worstOf_4 : List UInt8 := [167, 255, 179, 132, 3, 1, 167, 255, 159, 28, 172]
abbrev dktX0_worstOf_4 : List UInt8 := dkwX0_worstOf_4 ++ []
def dkwX0_worstOf_3 : List UInt8 := [182, 0, 86, 42, 21, 4, 18, 89, 182, 0, 86, 100, 184, 0, 90, 167, 0, 4, 28, 61, 132, 4, 1]
abbrev dktX0_worstOf_3 : List UInt8 := dkwX0_worstOf_3 ++ dktX0_worstOf_4
def dkwX0_worstOf_2 : List UInt8 := [122, 4, 126, 4, 160, 0, 7, 4, 167, 0, 4, 3, 54, 5, 21, 5, 153, 0, 26, 28, 42, 29, 18, 85]
abbrev dktX0_worstOf_2 : List UInt8 := dkwX0_worstOf_2 ++ dktX0_worstOf_3
def dkwX0_worstOf_1 : List UInt8 := [180, 0, 28, 162, 0, 71, 29, 21, 4, 159, 0, 26, 27, 29, 122, 4, 126, 4, 160, 0, 17, 27, 21, 4]
abbrev dktX0_worstOf_1 : List UInt8 := dkwX0_worstOf_1 ++ dktX0_worstOf_2
def dkwX0_worstOf_0 : List UInt8 := [3, 61, 3, 62, 29, 42, 180, 0, 74, 180, 0, 28, 162, 0, 92, 3, 54, 4, 21, 4, 42, 180, 0, 74]
abbrev dktX0_worstOf_0 : List UInt8 := dkwX0_worstOf_0 ++ dktX0_worstOf_1
theorem dksX0_worstOf_0 : cX0_worstOf.data.toList.drop 0 = dktX0_worstOf_0 := by decide +kernel
theorem dksX0_worstOf_1 : cX0_worstOf.data.toList.drop 24 = dktX0_worstOf_1 := dk_seg dksX0_worstOf_0 24 rfl rfl
theorem dksX0_worstOf_2 : cX0_worstOf.data.toList.drop 48 = dktX0_worstOf_2 := dk_seg dksX0_worstOf_1 24 rfl rfl
theorem dksX0_worstOf_3 : cX0_worstOf.data.toList.drop 72 = dktX0_worstOf_3 := dk_seg dksX0_worstOf_2 24 rfl rfl
theorem dksX0_worstOf_4 : cX0_worstOf.data.toList.drop 95 = dktX0_worstOf_4 := dk_seg dksX0_worstOf_3 23 rfl rfl
theorem dX0_worstOf_0 : decode cX0_worstOf 0 = .ok (.iconst 0, 1) := dk_3 (dk_at dksX0_worstOf_0 0 rfl rfl)
theorem dX0_worstOf_1 : decode cX0_worstOf 1 = .ok (.istore_n 2, 1) := dk_61 (dk_at dksX0_worstOf_0 1 rfl rfl)
theorem dX0_worstOf_2 : decode cX0_worstOf 2 = .ok (.iconst 0, 1) := dk_3 (dk_at dksX0_worstOf_0 2 rfl rfl)
theorem dX0_worstOf_3 : decode cX0_worstOf 3 = .ok (.istore_n 3, 1) := dk_62 (dk_at dksX0_worstOf_0 3 rfl rfl)
theorem dX0_worstOf_4 : decode cX0_worstOf 4 = .ok (.iload_n 3, 1) := dk_29 (dk_at dksX0_worstOf_0 4 rfl rfl)
theorem dX0_worstOf_5 : decode cX0_worstOf 5 = .ok (.aload_n 0, 1) := dk_42 (dk_at dksX0_worstOf_0 5 rfl rfl)
theorem dX0_worstOf_6 : decode cX0_worstOf 6 = .ok (.getfield 74, 3) := dk_180 0 74 (dk_at dksX0_worstOf_0 6 rfl rfl)
theorem dX0_worstOf_9 : decode cX0_worstOf 9 = .ok (.getfield 28, 3) := dk_180 0 28 (dk_at dksX0_worstOf_0 9 rfl rfl)
theorem dX0_worstOf_12 : decode cX0_worstOf 12 = .ok (.if_icmp .ge 92, 3) := dk_162 0 92 (dk_at dksX0_worstOf_0 12 rfl rfl)
theorem dX0_worstOf_15 : decode cX0_worstOf 15 = .ok (.iconst 0, 1) := dk_3 (dk_at dksX0_worstOf_0 15 rfl rfl)
theorem dX0_worstOf_16 : decode cX0_worstOf 16 = .ok (.istore 4, 2) := dk_54 4 (dk_at dksX0_worstOf_0 16 rfl rfl)
theorem dX0_worstOf_18 : decode cX0_worstOf 18 = .ok (.iload 4, 2) := dk_21 4 (dk_at dksX0_worstOf_0 18 rfl rfl)
theorem dX0_worstOf_20 : decode cX0_worstOf 20 = .ok (.aload_n 0, 1) := dk_42 (dk_at dksX0_worstOf_0 20 rfl rfl)
theorem dX0_worstOf_21 : decode cX0_worstOf 21 = .ok (.getfield 74, 3) := dk_180 0 74 (dk_at dksX0_worstOf_0 21 rfl rfl)
theorem dX0_worstOf_24 : decode cX0_worstOf 24 = .ok (.getfield 28, 3) := dk_180 0 28 (dk_at dksX0_worstOf_1 0 rfl rfl)
theorem dX0_worstOf_27 : decode cX0_worstOf 27 = .ok (.if_icmp .ge 71, 3) := dk_162 0 71 (dk_at dksX0_worstOf_1 3 rfl rfl)
theorem dX0_worstOf_30 : decode cX0_worstOf 30 = .ok (.iload_n 3, 1) := dk_29 (dk_at dksX0_worstOf_1 6 rfl rfl)
theorem dX0_worstOf_31 : decode cX0_worstOf 31 = .ok (.iload 4, 2) := dk_21 4 (dk_at dksX0_worstOf_1 7 rfl rfl)
theorem dX0_worstOf_33 : decode cX0_worstOf 33 = .ok (.if_icmp .eq 26, 3) := dk_159 0 26 (dk_at dksX0_worstOf_1 9 rfl rfl)
theorem dX0_worstOf_36 : decode cX0_worstOf 36 = .ok (.iload_n 1, 1) := dk_27 (dk_at dksX0_worstOf_1 12 rfl rfl)
theorem dX0_worstOf_37 : decode cX0_worstOf 37 = .ok (.iload_n 3, 1) := dk_29 (dk_at dksX0_worstOf_1 13 rfl rfl)
theorem dX0_worstOf_38 : decode cX0_worstOf 38 = .ok (.ishr, 1) := dk_122 (dk_at dksX0_worstOf_1 14 rfl rfl)
theorem dX0_worstOf_39 : decode cX0_worstOf 39 = .ok (.iconst 1, 1) := dk_4 (dk_at dksX0_worstOf_1 15 rfl rfl)
theorem dX0_worstOf_40 : decode cX0_worstOf 40 = .ok (.iand, 1) := dk_126 (dk_at dksX0_worstOf_1 16 rfl rfl)
theorem dX0_worstOf_41 : decode cX0_worstOf 41 = .ok (.iconst 1, 1) := dk_4 (dk_at dksX0_worstOf_1 17 rfl rfl)
theorem dX0_worstOf_42 : decode cX0_worstOf 42 = .ok (.if_icmp .ne 17, 3) := dk_160 0 17 (dk_at dksX0_worstOf_1 18 rfl rfl)
theorem dX0_worstOf_45 : decode cX0_worstOf 45 = .ok (.iload_n 1, 1) := dk_27 (dk_at dksX0_worstOf_1 21 rfl rfl)
theorem dX0_worstOf_46 : decode cX0_worstOf 46 = .ok (.iload 4, 2) := dk_21 4 (dk_at dksX0_worstOf_1 22 rfl rfl)
theorem dX0_worstOf_48 : decode cX0_worstOf 48 = .ok (.ishr, 1) := dk_122 (dk_at dksX0_worstOf_2 0 rfl rfl)
theorem dX0_worstOf_49 : decode cX0_worstOf 49 = .ok (.iconst 1, 1) := dk_4 (dk_at dksX0_worstOf_2 1 rfl rfl)
theorem dX0_worstOf_50 : decode cX0_worstOf 50 = .ok (.iand, 1) := dk_126 (dk_at dksX0_worstOf_2 2 rfl rfl)
theorem dX0_worstOf_51 : decode cX0_worstOf 51 = .ok (.iconst 1, 1) := dk_4 (dk_at dksX0_worstOf_2 3 rfl rfl)
theorem dX0_worstOf_52 : decode cX0_worstOf 52 = .ok (.if_icmp .ne 7, 3) := dk_160 0 7 (dk_at dksX0_worstOf_2 4 rfl rfl)
theorem dX0_worstOf_55 : decode cX0_worstOf 55 = .ok (.iconst 1, 1) := dk_4 (dk_at dksX0_worstOf_2 7 rfl rfl)
theorem dX0_worstOf_56 : decode cX0_worstOf 56 = .ok (.goto 4, 3) := dk_167 0 4 (dk_at dksX0_worstOf_2 8 rfl rfl)
theorem dX0_worstOf_59 : decode cX0_worstOf 59 = .ok (.iconst 0, 1) := dk_3 (dk_at dksX0_worstOf_2 11 rfl rfl)
theorem dX0_worstOf_60 : decode cX0_worstOf 60 = .ok (.istore 5, 2) := dk_54 5 (dk_at dksX0_worstOf_2 12 rfl rfl)
theorem dX0_worstOf_62 : decode cX0_worstOf 62 = .ok (.iload 5, 2) := dk_21 5 (dk_at dksX0_worstOf_2 14 rfl rfl)
theorem dX0_worstOf_64 : decode cX0_worstOf 64 = .ok (.ifCond .eq 26, 3) := dk_153 0 26 (dk_at dksX0_worstOf_2 16 rfl rfl)
theorem dX0_worstOf_67 : decode cX0_worstOf 67 = .ok (.iload_n 2, 1) := dk_28 (dk_at dksX0_worstOf_2 19 rfl rfl)
theorem dX0_worstOf_68 : decode cX0_worstOf 68 = .ok (.aload_n 0, 1) := dk_42 (dk_at dksX0_worstOf_2 20 rfl rfl)
theorem dX0_worstOf_69 : decode cX0_worstOf 69 = .ok (.iload_n 3, 1) := dk_29 (dk_at dksX0_worstOf_2 21 rfl rfl)
theorem dX0_worstOf_70 : decode cX0_worstOf 70 = .ok (.ldc 85, 2) := dk_18 85 (dk_at dksX0_worstOf_2 22 rfl rfl)
theorem dX0_worstOf_72 : decode cX0_worstOf 72 = .ok (.invokevirtual 86, 3) := dk_182 0 86 (dk_at dksX0_worstOf_3 0 rfl rfl)
theorem dX0_worstOf_75 : decode cX0_worstOf 75 = .ok (.aload_n 0, 1) := dk_42 (dk_at dksX0_worstOf_3 3 rfl rfl)
theorem dX0_worstOf_76 : decode cX0_worstOf 76 = .ok (.iload 4, 2) := dk_21 4 (dk_at dksX0_worstOf_3 4 rfl rfl)
theorem dX0_worstOf_78 : decode cX0_worstOf 78 = .ok (.ldc 89, 2) := dk_18 89 (dk_at dksX0_worstOf_3 6 rfl rfl)
theorem dX0_worstOf_80 : decode cX0_worstOf 80 = .ok (.invokevirtual 86, 3) := dk_182 0 86 (dk_at dksX0_worstOf_3 8 rfl rfl)
theorem dX0_worstOf_83 : decode cX0_worstOf 83 = .ok (.isub, 1) := dk_100 (dk_at dksX0_worstOf_3 11 rfl rfl)
theorem dX0_worstOf_84 : decode cX0_worstOf 84 = .ok (.invokestatic 90, 3) := dk_184 0 90 (dk_at dksX0_worstOf_3 12 rfl rfl)
theorem dX0_worstOf_87 : decode cX0_worstOf 87 = .ok (.goto 4, 3) := dk_167 0 4 (dk_at dksX0_worstOf_3 15 rfl rfl)
theorem dX0_worstOf_90 : decode cX0_worstOf 90 = .ok (.iload_n 2, 1) := dk_28 (dk_at dksX0_worstOf_3 18 rfl rfl)
theorem dX0_worstOf_91 : decode cX0_worstOf 91 = .ok (.istore_n 2, 1) := dk_61 (dk_at dksX0_worstOf_3 19 rfl rfl)
theorem dX0_worstOf_92 : decode cX0_worstOf 92 = .ok (.iinc 4 1, 3) := dk_132 4 1 (dk_at dksX0_worstOf_3 20 rfl rfl)
theorem dX0_worstOf_95 : decode cX0_worstOf 95 = .ok (.goto (-77), 3) := dk_167 255 179 (dk_at dksX0_worstOf_4 0 rfl rfl)
theorem dX0_worstOf_98 : decode cX0_worstOf 98 = .ok (.iinc 3 1, 3) := dk_132 3 1 (dk_at dksX0_worstOf_4 3 rfl rfl)
theorem dX0_worstOf_101 : decode cX0_worstOf 101 = .ok (.goto (-97), 3) := dk_167 255 159 (dk_at dksX0_worstOf_4 6 rfl rfl)
theorem dX0_worstOf_104 : decode cX0_worstOf 104 = .ok (.iload_n 2, 1) := dk_28 (dk_at dksX0_worstOf_4 9 rfl rfl)
theorem dX0_worstOf_105 : decode cX0_worstOf 105 = .ok (.ireturn, 1) := dk_172 (dk_at dksX0_worstOf_4 10 rfl rfl)
abbrev cX0_extremeOf : ByteArray := prog_1_method_6_code
def yX0_extremeOf : MethodName := ⟨RX0, "extremeOf", "(II)I"⟩
def dkwX0_extremeOf_3 : List UInt8 := [182, 0, 36, 132, 3, 1, 167, 255, 189, 42, 42, 180, 0, 74, 180, 0, 40, 182, 0, 43, 172]
abbrev dktX0_extremeOf_3 : List UInt8 := dkwX0_extremeOf_3 ++ []
def dkwX0_extremeOf_2 : List UInt8 := [3, 54, 4, 42, 21, 4, 153, 0, 7, 28, 167, 0, 12, 42, 180, 0, 74, 27, 29, 182, 0, 33]
abbrev dktX0_extremeOf_2 : List UInt8 := dkwX0_extremeOf_2 ++ dktX0_extremeOf_3
def dkwX0_extremeOf_1 : List UInt8 := [180, 0, 78, 29, 51, 153, 0, 19, 42, 180, 0, 74, 180, 0, 82, 29, 51, 154, 0, 7, 4, 167, 0, 4]
abbrev dktX0_extremeOf_1 : List UInt8 := dkwX0_extremeOf_1 ++ dktX0_extremeOf_2
def dkwX0_extremeOf_0 : List UInt8 := [42, 3, 181, 0, 1, 3, 62, 29, 42, 180, 0, 74, 180, 0, 28, 162, 0, 62, 42, 180, 0, 74]
abbrev dktX0_extremeOf_0 : List UInt8 := dkwX0_extremeOf_0 ++ dktX0_extremeOf_1
theorem dksX0_extremeOf_0 : cX0_extremeOf.data.toList.drop 0 = dktX0_extremeOf_0 := by decide +kernel
theorem dksX0_extremeOf_1 : cX0_extremeOf.data.toList.drop 22 = dktX0_extremeOf_1 := dk_seg dksX0_extremeOf_0 22 rfl rfl
theorem dksX0_extremeOf_2 : cX0_extremeOf.data.toList.drop 46 = dktX0_extremeOf_2 := dk_seg dksX0_extremeOf_1 24 rfl rfl
theorem dksX0_extremeOf_3 : cX0_extremeOf.data.toList.drop 68 = dktX0_extremeOf_3 := dk_seg dksX0_extremeOf_2 22 rfl rfl
theorem dX0_extremeOf_0 : decode cX0_extremeOf 0 = .ok (.aload_n 0, 1) := dk_42 (dk_at dksX0_extremeOf_0 0 rfl rfl)
theorem dX0_extremeOf_1 : decode cX0_extremeOf 1 = .ok (.iconst 0, 1) := dk_3 (dk_at dksX0_extremeOf_0 1 rfl rfl)
theorem dX0_extremeOf_2 : decode cX0_extremeOf 2 = .ok (.putfield 1, 3) := dk_181 0 1 (dk_at dksX0_extremeOf_0 2 rfl rfl)
theorem dX0_extremeOf_5 : decode cX0_extremeOf 5 = .ok (.iconst 0, 1) := dk_3 (dk_at dksX0_extremeOf_0 5 rfl rfl)
theorem dX0_extremeOf_6 : decode cX0_extremeOf 6 = .ok (.istore_n 3, 1) := dk_62 (dk_at dksX0_extremeOf_0 6 rfl rfl)
theorem dX0_extremeOf_7 : decode cX0_extremeOf 7 = .ok (.iload_n 3, 1) := dk_29 (dk_at dksX0_extremeOf_0 7 rfl rfl)
theorem dX0_extremeOf_8 : decode cX0_extremeOf 8 = .ok (.aload_n 0, 1) := dk_42 (dk_at dksX0_extremeOf_0 8 rfl rfl)
theorem dX0_extremeOf_9 : decode cX0_extremeOf 9 = .ok (.getfield 74, 3) := dk_180 0 74 (dk_at dksX0_extremeOf_0 9 rfl rfl)
theorem dX0_extremeOf_12 : decode cX0_extremeOf 12 = .ok (.getfield 28, 3) := dk_180 0 28 (dk_at dksX0_extremeOf_0 12 rfl rfl)
theorem dX0_extremeOf_15 : decode cX0_extremeOf 15 = .ok (.if_icmp .ge 62, 3) := dk_162 0 62 (dk_at dksX0_extremeOf_0 15 rfl rfl)
theorem dX0_extremeOf_18 : decode cX0_extremeOf 18 = .ok (.aload_n 0, 1) := dk_42 (dk_at dksX0_extremeOf_0 18 rfl rfl)
theorem dX0_extremeOf_19 : decode cX0_extremeOf 19 = .ok (.getfield 74, 3) := dk_180 0 74 (dk_at dksX0_extremeOf_0 19 rfl rfl)
theorem dX0_extremeOf_22 : decode cX0_extremeOf 22 = .ok (.getfield 78, 3) := dk_180 0 78 (dk_at dksX0_extremeOf_1 0 rfl rfl)
theorem dX0_extremeOf_25 : decode cX0_extremeOf 25 = .ok (.iload_n 3, 1) := dk_29 (dk_at dksX0_extremeOf_1 3 rfl rfl)
theorem dX0_extremeOf_26 : decode cX0_extremeOf 26 = .ok (.baload, 1) := dk_51 (dk_at dksX0_extremeOf_1 4 rfl rfl)
theorem dX0_extremeOf_27 : decode cX0_extremeOf 27 = .ok (.ifCond .eq 19, 3) := dk_153 0 19 (dk_at dksX0_extremeOf_1 5 rfl rfl)
theorem dX0_extremeOf_30 : decode cX0_extremeOf 30 = .ok (.aload_n 0, 1) := dk_42 (dk_at dksX0_extremeOf_1 8 rfl rfl)
theorem dX0_extremeOf_31 : decode cX0_extremeOf 31 = .ok (.getfield 74, 3) := dk_180 0 74 (dk_at dksX0_extremeOf_1 9 rfl rfl)
theorem dX0_extremeOf_34 : decode cX0_extremeOf 34 = .ok (.getfield 82, 3) := dk_180 0 82 (dk_at dksX0_extremeOf_1 12 rfl rfl)
theorem dX0_extremeOf_37 : decode cX0_extremeOf 37 = .ok (.iload_n 3, 1) := dk_29 (dk_at dksX0_extremeOf_1 15 rfl rfl)
theorem dX0_extremeOf_38 : decode cX0_extremeOf 38 = .ok (.baload, 1) := dk_51 (dk_at dksX0_extremeOf_1 16 rfl rfl)
theorem dX0_extremeOf_39 : decode cX0_extremeOf 39 = .ok (.ifCond .ne 7, 3) := dk_154 0 7 (dk_at dksX0_extremeOf_1 17 rfl rfl)
theorem dX0_extremeOf_42 : decode cX0_extremeOf 42 = .ok (.iconst 1, 1) := dk_4 (dk_at dksX0_extremeOf_1 20 rfl rfl)
theorem dX0_extremeOf_43 : decode cX0_extremeOf 43 = .ok (.goto 4, 3) := dk_167 0 4 (dk_at dksX0_extremeOf_1 21 rfl rfl)
theorem dX0_extremeOf_46 : decode cX0_extremeOf 46 = .ok (.iconst 0, 1) := dk_3 (dk_at dksX0_extremeOf_2 0 rfl rfl)
theorem dX0_extremeOf_47 : decode cX0_extremeOf 47 = .ok (.istore 4, 2) := dk_54 4 (dk_at dksX0_extremeOf_2 1 rfl rfl)
theorem dX0_extremeOf_49 : decode cX0_extremeOf 49 = .ok (.aload_n 0, 1) := dk_42 (dk_at dksX0_extremeOf_2 3 rfl rfl)
theorem dX0_extremeOf_50 : decode cX0_extremeOf 50 = .ok (.iload 4, 2) := dk_21 4 (dk_at dksX0_extremeOf_2 4 rfl rfl)
theorem dX0_extremeOf_52 : decode cX0_extremeOf 52 = .ok (.ifCond .eq 7, 3) := dk_153 0 7 (dk_at dksX0_extremeOf_2 6 rfl rfl)
theorem dX0_extremeOf_55 : decode cX0_extremeOf 55 = .ok (.iload_n 2, 1) := dk_28 (dk_at dksX0_extremeOf_2 9 rfl rfl)
theorem dX0_extremeOf_56 : decode cX0_extremeOf 56 = .ok (.goto 12, 3) := dk_167 0 12 (dk_at dksX0_extremeOf_2 10 rfl rfl)
theorem dX0_extremeOf_59 : decode cX0_extremeOf 59 = .ok (.aload_n 0, 1) := dk_42 (dk_at dksX0_extremeOf_2 13 rfl rfl)
theorem dX0_extremeOf_60 : decode cX0_extremeOf 60 = .ok (.getfield 74, 3) := dk_180 0 74 (dk_at dksX0_extremeOf_2 14 rfl rfl)
theorem dX0_extremeOf_63 : decode cX0_extremeOf 63 = .ok (.iload_n 1, 1) := dk_27 (dk_at dksX0_extremeOf_2 17 rfl rfl)
theorem dX0_extremeOf_64 : decode cX0_extremeOf 64 = .ok (.iload_n 3, 1) := dk_29 (dk_at dksX0_extremeOf_2 18 rfl rfl)
theorem dX0_extremeOf_65 : decode cX0_extremeOf 65 = .ok (.invokevirtual 33, 3) := dk_182 0 33 (dk_at dksX0_extremeOf_2 19 rfl rfl)
theorem dX0_extremeOf_68 : decode cX0_extremeOf 68 = .ok (.invokevirtual 36, 3) := dk_182 0 36 (dk_at dksX0_extremeOf_3 0 rfl rfl)
theorem dX0_extremeOf_71 : decode cX0_extremeOf 71 = .ok (.iinc 3 1, 3) := dk_132 3 1 (dk_at dksX0_extremeOf_3 3 rfl rfl)
theorem dX0_extremeOf_74 : decode cX0_extremeOf 74 = .ok (.goto (-67), 3) := dk_167 255 189 (dk_at dksX0_extremeOf_3 6 rfl rfl)
theorem dX0_extremeOf_77 : decode cX0_extremeOf 77 = .ok (.aload_n 0, 1) := dk_42 (dk_at dksX0_extremeOf_3 9 rfl rfl)
theorem dX0_extremeOf_78 : decode cX0_extremeOf 78 = .ok (.aload_n 0, 1) := dk_42 (dk_at dksX0_extremeOf_3 10 rfl rfl)
theorem dX0_extremeOf_79 : decode cX0_extremeOf 79 = .ok (.getfield 74, 3) := dk_180 0 74 (dk_at dksX0_extremeOf_3 11 rfl rfl)
theorem dX0_extremeOf_82 : decode cX0_extremeOf 82 = .ok (.getfield 40, 3) := dk_180 0 40 (dk_at dksX0_extremeOf_3 14 rfl rfl)
theorem dX0_extremeOf_85 : decode cX0_extremeOf 85 = .ok (.invokevirtual 43, 3) := dk_182 0 43 (dk_at dksX0_extremeOf_3 17 rfl rfl)
theorem dX0_extremeOf_88 : decode cX0_extremeOf 88 = .ok (.ireturn, 1) := dk_172 (dk_at dksX0_extremeOf_3 20 rfl rfl)
abbrev cX0_hear : ByteArray := prog_1_method_2_code
def yX0_hear : MethodName := ⟨RX0, "hear", "(I)V"⟩
def dkwX0_hear_2 : List UInt8 := [27, 79, 42, 89, 180, 0, 1, 4, 96, 181, 0, 1, 177]
abbrev dktX0_hear_2 : List UInt8 := dkwX0_hear_2 ++ []
def dkwX0_hear_1 : List UInt8 := [180, 0, 7, 28, 42, 180, 0, 7, 28, 4, 100, 46, 79, 132, 2, 255, 167, 255, 223, 42, 180, 0, 7, 28]
abbrev dktX0_hear_1 : List UInt8 := dkwX0_hear_1 ++ dktX0_hear_2
def dkwX0_hear_0 : List UInt8 := [42, 180, 0, 1, 61, 28, 158, 0, 35, 42, 180, 0, 7, 28, 4, 100, 46, 27, 164, 0, 23, 42]
abbrev dktX0_hear_0 : List UInt8 := dkwX0_hear_0 ++ dktX0_hear_1
theorem dksX0_hear_0 : cX0_hear.data.toList.drop 0 = dktX0_hear_0 := by decide +kernel
theorem dksX0_hear_1 : cX0_hear.data.toList.drop 22 = dktX0_hear_1 := dk_seg dksX0_hear_0 22 rfl rfl
theorem dksX0_hear_2 : cX0_hear.data.toList.drop 46 = dktX0_hear_2 := dk_seg dksX0_hear_1 24 rfl rfl
theorem dX0_hear_0 : decode cX0_hear 0 = .ok (.aload_n 0, 1) := dk_42 (dk_at dksX0_hear_0 0 rfl rfl)
theorem dX0_hear_1 : decode cX0_hear 1 = .ok (.getfield 1, 3) := dk_180 0 1 (dk_at dksX0_hear_0 1 rfl rfl)
theorem dX0_hear_4 : decode cX0_hear 4 = .ok (.istore_n 2, 1) := dk_61 (dk_at dksX0_hear_0 4 rfl rfl)
theorem dX0_hear_5 : decode cX0_hear 5 = .ok (.iload_n 2, 1) := dk_28 (dk_at dksX0_hear_0 5 rfl rfl)
theorem dX0_hear_6 : decode cX0_hear 6 = .ok (.ifCond .le 35, 3) := dk_158 0 35 (dk_at dksX0_hear_0 6 rfl rfl)
theorem dX0_hear_9 : decode cX0_hear 9 = .ok (.aload_n 0, 1) := dk_42 (dk_at dksX0_hear_0 9 rfl rfl)
theorem dX0_hear_10 : decode cX0_hear 10 = .ok (.getfield 7, 3) := dk_180 0 7 (dk_at dksX0_hear_0 10 rfl rfl)
theorem dX0_hear_13 : decode cX0_hear 13 = .ok (.iload_n 2, 1) := dk_28 (dk_at dksX0_hear_0 13 rfl rfl)
theorem dX0_hear_14 : decode cX0_hear 14 = .ok (.iconst 1, 1) := dk_4 (dk_at dksX0_hear_0 14 rfl rfl)
theorem dX0_hear_15 : decode cX0_hear 15 = .ok (.isub, 1) := dk_100 (dk_at dksX0_hear_0 15 rfl rfl)
theorem dX0_hear_16 : decode cX0_hear 16 = .ok (.iaload, 1) := dk_46 (dk_at dksX0_hear_0 16 rfl rfl)
theorem dX0_hear_17 : decode cX0_hear 17 = .ok (.iload_n 1, 1) := dk_27 (dk_at dksX0_hear_0 17 rfl rfl)
theorem dX0_hear_18 : decode cX0_hear 18 = .ok (.if_icmp .le 23, 3) := dk_164 0 23 (dk_at dksX0_hear_0 18 rfl rfl)
theorem dX0_hear_21 : decode cX0_hear 21 = .ok (.aload_n 0, 1) := dk_42 (dk_at dksX0_hear_0 21 rfl rfl)
theorem dX0_hear_22 : decode cX0_hear 22 = .ok (.getfield 7, 3) := dk_180 0 7 (dk_at dksX0_hear_1 0 rfl rfl)
theorem dX0_hear_25 : decode cX0_hear 25 = .ok (.iload_n 2, 1) := dk_28 (dk_at dksX0_hear_1 3 rfl rfl)
theorem dX0_hear_26 : decode cX0_hear 26 = .ok (.aload_n 0, 1) := dk_42 (dk_at dksX0_hear_1 4 rfl rfl)
theorem dX0_hear_27 : decode cX0_hear 27 = .ok (.getfield 7, 3) := dk_180 0 7 (dk_at dksX0_hear_1 5 rfl rfl)
theorem dX0_hear_30 : decode cX0_hear 30 = .ok (.iload_n 2, 1) := dk_28 (dk_at dksX0_hear_1 8 rfl rfl)
theorem dX0_hear_31 : decode cX0_hear 31 = .ok (.iconst 1, 1) := dk_4 (dk_at dksX0_hear_1 9 rfl rfl)
theorem dX0_hear_32 : decode cX0_hear 32 = .ok (.isub, 1) := dk_100 (dk_at dksX0_hear_1 10 rfl rfl)
theorem dX0_hear_33 : decode cX0_hear 33 = .ok (.iaload, 1) := dk_46 (dk_at dksX0_hear_1 11 rfl rfl)
theorem dX0_hear_34 : decode cX0_hear 34 = .ok (.iastore, 1) := dk_79 (dk_at dksX0_hear_1 12 rfl rfl)
theorem dX0_hear_35 : decode cX0_hear 35 = .ok (.iinc 2 (-1), 3) := dk_132 2 255 (dk_at dksX0_hear_1 13 rfl rfl)
theorem dX0_hear_38 : decode cX0_hear 38 = .ok (.goto (-33), 3) := dk_167 255 223 (dk_at dksX0_hear_1 16 rfl rfl)
theorem dX0_hear_41 : decode cX0_hear 41 = .ok (.aload_n 0, 1) := dk_42 (dk_at dksX0_hear_1 19 rfl rfl)
theorem dX0_hear_42 : decode cX0_hear 42 = .ok (.getfield 7, 3) := dk_180 0 7 (dk_at dksX0_hear_1 20 rfl rfl)
theorem dX0_hear_45 : decode cX0_hear 45 = .ok (.iload_n 2, 1) := dk_28 (dk_at dksX0_hear_1 23 rfl rfl)
theorem dX0_hear_46 : decode cX0_hear 46 = .ok (.iload_n 1, 1) := dk_27 (dk_at dksX0_hear_2 0 rfl rfl)
theorem dX0_hear_47 : decode cX0_hear 47 = .ok (.iastore, 1) := dk_79 (dk_at dksX0_hear_2 1 rfl rfl)
theorem dX0_hear_48 : decode cX0_hear 48 = .ok (.aload_n 0, 1) := dk_42 (dk_at dksX0_hear_2 2 rfl rfl)
theorem dX0_hear_49 : decode cX0_hear 49 = .ok (.dup, 1) := dk_89 (dk_at dksX0_hear_2 3 rfl rfl)
theorem dX0_hear_50 : decode cX0_hear 50 = .ok (.getfield 1, 3) := dk_180 0 1 (dk_at dksX0_hear_2 4 rfl rfl)
theorem dX0_hear_53 : decode cX0_hear 53 = .ok (.iconst 1, 1) := dk_4 (dk_at dksX0_hear_2 7 rfl rfl)
theorem dX0_hear_54 : decode cX0_hear 54 = .ok (.iadd, 1) := dk_96 (dk_at dksX0_hear_2 8 rfl rfl)
theorem dX0_hear_55 : decode cX0_hear 55 = .ok (.putfield 1, 3) := dk_181 0 1 (dk_at dksX0_hear_2 9 rfl rfl)
theorem dX0_hear_58 : decode cX0_hear 58 = .ok (.return_, 1) := dk_177 (dk_at dksX0_hear_2 12 rfl rfl)
abbrev cX0_middle : ByteArray := prog_1_method_3_code
def yX0_middle : MethodName := ⟨RX0, "middle", "(I)I"⟩
def dkwX0_middle_2 : List UInt8 := [184, 0, 22, 172]
abbrev dktX0_middle_2 : List UInt8 := dkwX0_middle_2 ++ []
def dkwX0_middle_1 : List UInt8 := [191, 42, 180, 0, 7, 27, 46, 42, 180, 0, 7, 42, 180, 0, 1, 4, 100, 27, 100, 46, 96, 5]
abbrev dktX0_middle_1 : List UInt8 := dkwX0_middle_1 ++ dktX0_middle_2
def dkwX0_middle_0 : List UInt8 := [42, 180, 0, 1, 5, 27, 104, 163, 0, 18, 187, 0, 11, 89, 187, 0, 13, 89, 183, 0, 15, 183, 0, 19]
abbrev dktX0_middle_0 : List UInt8 := dkwX0_middle_0 ++ dktX0_middle_1
theorem dksX0_middle_0 : cX0_middle.data.toList.drop 0 = dktX0_middle_0 := by decide +kernel
theorem dksX0_middle_1 : cX0_middle.data.toList.drop 24 = dktX0_middle_1 := dk_seg dksX0_middle_0 24 rfl rfl
theorem dksX0_middle_2 : cX0_middle.data.toList.drop 46 = dktX0_middle_2 := dk_seg dksX0_middle_1 22 rfl rfl
theorem dX0_middle_0 : decode cX0_middle 0 = .ok (.aload_n 0, 1) := dk_42 (dk_at dksX0_middle_0 0 rfl rfl)
theorem dX0_middle_1 : decode cX0_middle 1 = .ok (.getfield 1, 3) := dk_180 0 1 (dk_at dksX0_middle_0 1 rfl rfl)
theorem dX0_middle_4 : decode cX0_middle 4 = .ok (.iconst 2, 1) := dk_5 (dk_at dksX0_middle_0 4 rfl rfl)
theorem dX0_middle_5 : decode cX0_middle 5 = .ok (.iload_n 1, 1) := dk_27 (dk_at dksX0_middle_0 5 rfl rfl)
theorem dX0_middle_6 : decode cX0_middle 6 = .ok (.imul, 1) := dk_104 (dk_at dksX0_middle_0 6 rfl rfl)
theorem dX0_middle_7 : decode cX0_middle 7 = .ok (.if_icmp .gt 18, 3) := dk_163 0 18 (dk_at dksX0_middle_0 7 rfl rfl)
theorem dX0_middle_10 : decode cX0_middle 10 = .ok (.new 11, 3) := dk_187 0 11 (dk_at dksX0_middle_0 10 rfl rfl)
theorem dX0_middle_13 : decode cX0_middle 13 = .ok (.dup, 1) := dk_89 (dk_at dksX0_middle_0 13 rfl rfl)
theorem dX0_middle_14 : decode cX0_middle 14 = .ok (.new 13, 3) := dk_187 0 13 (dk_at dksX0_middle_0 14 rfl rfl)
theorem dX0_middle_17 : decode cX0_middle 17 = .ok (.dup, 1) := dk_89 (dk_at dksX0_middle_0 17 rfl rfl)
theorem dX0_middle_18 : decode cX0_middle 18 = .ok (.invokespecial 15, 3) := dk_183 0 15 (dk_at dksX0_middle_0 18 rfl rfl)
theorem dX0_middle_21 : decode cX0_middle 21 = .ok (.invokespecial 19, 3) := dk_183 0 19 (dk_at dksX0_middle_0 21 rfl rfl)
theorem dX0_middle_24 : decode cX0_middle 24 = .ok (.athrow, 1) := dk_191 (dk_at dksX0_middle_1 0 rfl rfl)
theorem dX0_middle_25 : decode cX0_middle 25 = .ok (.aload_n 0, 1) := dk_42 (dk_at dksX0_middle_1 1 rfl rfl)
theorem dX0_middle_26 : decode cX0_middle 26 = .ok (.getfield 7, 3) := dk_180 0 7 (dk_at dksX0_middle_1 2 rfl rfl)
theorem dX0_middle_29 : decode cX0_middle 29 = .ok (.iload_n 1, 1) := dk_27 (dk_at dksX0_middle_1 5 rfl rfl)
theorem dX0_middle_30 : decode cX0_middle 30 = .ok (.iaload, 1) := dk_46 (dk_at dksX0_middle_1 6 rfl rfl)
theorem dX0_middle_31 : decode cX0_middle 31 = .ok (.aload_n 0, 1) := dk_42 (dk_at dksX0_middle_1 7 rfl rfl)
theorem dX0_middle_32 : decode cX0_middle 32 = .ok (.getfield 7, 3) := dk_180 0 7 (dk_at dksX0_middle_1 8 rfl rfl)
theorem dX0_middle_35 : decode cX0_middle 35 = .ok (.aload_n 0, 1) := dk_42 (dk_at dksX0_middle_1 11 rfl rfl)
theorem dX0_middle_36 : decode cX0_middle 36 = .ok (.getfield 1, 3) := dk_180 0 1 (dk_at dksX0_middle_1 12 rfl rfl)
theorem dX0_middle_39 : decode cX0_middle 39 = .ok (.iconst 1, 1) := dk_4 (dk_at dksX0_middle_1 15 rfl rfl)
theorem dX0_middle_40 : decode cX0_middle 40 = .ok (.isub, 1) := dk_100 (dk_at dksX0_middle_1 16 rfl rfl)
theorem dX0_middle_41 : decode cX0_middle 41 = .ok (.iload_n 1, 1) := dk_27 (dk_at dksX0_middle_1 17 rfl rfl)
theorem dX0_middle_42 : decode cX0_middle 42 = .ok (.isub, 1) := dk_100 (dk_at dksX0_middle_1 18 rfl rfl)
theorem dX0_middle_43 : decode cX0_middle 43 = .ok (.iaload, 1) := dk_46 (dk_at dksX0_middle_1 19 rfl rfl)
theorem dX0_middle_44 : decode cX0_middle 44 = .ok (.iadd, 1) := dk_96 (dk_at dksX0_middle_1 20 rfl rfl)
theorem dX0_middle_45 : decode cX0_middle 45 = .ok (.iconst 2, 1) := dk_5 (dk_at dksX0_middle_1 21 rfl rfl)
theorem dX0_middle_46 : decode cX0_middle 46 = .ok (.invokestatic 22, 3) := dk_184 0 22 (dk_at dksX0_middle_2 0 rfl rfl)
theorem dX0_middle_49 : decode cX0_middle 49 = .ok (.ireturn, 1) := dk_172 (dk_at dksX0_middle_2 3 rfl rfl)
abbrev cX0_mayLie : ByteArray := prog_1_method_9_code
def yX0_mayLie : MethodName := ⟨RX0, "mayLie", "()I"⟩
def dkwX0_mayLie_2 : List UInt8 := [184, 0, 113, 172]
abbrev dktX0_mayLie_2 : List UInt8 := dkwX0_mayLie_2 ++ []
def dkwX0_mayLie_1 : List UInt8 := [100, 60, 27, 154, 0, 7, 2, 167, 0, 18, 42, 180, 0, 74, 180, 0, 40, 27, 4, 100, 6, 108]
abbrev dktX0_mayLie_1 : List UInt8 := dkwX0_mayLie_1 ++ dktX0_mayLie_2
def dkwX0_mayLie_0 : List UInt8 := [42, 180, 0, 74, 180, 0, 28, 42, 180, 0, 74, 42, 180, 0, 74, 180, 0, 82, 182, 0, 105, 184, 0, 97]
abbrev dktX0_mayLie_0 : List UInt8 := dkwX0_mayLie_0 ++ dktX0_mayLie_1
theorem dksX0_mayLie_0 : cX0_mayLie.data.toList.drop 0 = dktX0_mayLie_0 := by decide +kernel
theorem dksX0_mayLie_1 : cX0_mayLie.data.toList.drop 24 = dktX0_mayLie_1 := dk_seg dksX0_mayLie_0 24 rfl rfl
theorem dksX0_mayLie_2 : cX0_mayLie.data.toList.drop 46 = dktX0_mayLie_2 := dk_seg dksX0_mayLie_1 22 rfl rfl
theorem dX0_mayLie_0 : decode cX0_mayLie 0 = .ok (.aload_n 0, 1) := dk_42 (dk_at dksX0_mayLie_0 0 rfl rfl)
theorem dX0_mayLie_1 : decode cX0_mayLie 1 = .ok (.getfield 74, 3) := dk_180 0 74 (dk_at dksX0_mayLie_0 1 rfl rfl)
theorem dX0_mayLie_4 : decode cX0_mayLie 4 = .ok (.getfield 28, 3) := dk_180 0 28 (dk_at dksX0_mayLie_0 4 rfl rfl)
theorem dX0_mayLie_7 : decode cX0_mayLie 7 = .ok (.aload_n 0, 1) := dk_42 (dk_at dksX0_mayLie_0 7 rfl rfl)
theorem dX0_mayLie_8 : decode cX0_mayLie 8 = .ok (.getfield 74, 3) := dk_180 0 74 (dk_at dksX0_mayLie_0 8 rfl rfl)
theorem dX0_mayLie_11 : decode cX0_mayLie 11 = .ok (.aload_n 0, 1) := dk_42 (dk_at dksX0_mayLie_0 11 rfl rfl)
theorem dX0_mayLie_12 : decode cX0_mayLie 12 = .ok (.getfield 74, 3) := dk_180 0 74 (dk_at dksX0_mayLie_0 12 rfl rfl)
theorem dX0_mayLie_15 : decode cX0_mayLie 15 = .ok (.getfield 82, 3) := dk_180 0 82 (dk_at dksX0_mayLie_0 15 rfl rfl)
theorem dX0_mayLie_18 : decode cX0_mayLie 18 = .ok (.invokevirtual 105, 3) := dk_182 0 105 (dk_at dksX0_mayLie_0 18 rfl rfl)
theorem dX0_mayLie_21 : decode cX0_mayLie 21 = .ok (.invokestatic 97, 3) := dk_184 0 97 (dk_at dksX0_mayLie_0 21 rfl rfl)
theorem dX0_mayLie_24 : decode cX0_mayLie 24 = .ok (.isub, 1) := dk_100 (dk_at dksX0_mayLie_1 0 rfl rfl)
theorem dX0_mayLie_25 : decode cX0_mayLie 25 = .ok (.istore_n 1, 1) := dk_60 (dk_at dksX0_mayLie_1 1 rfl rfl)
theorem dX0_mayLie_26 : decode cX0_mayLie 26 = .ok (.iload_n 1, 1) := dk_27 (dk_at dksX0_mayLie_1 2 rfl rfl)
theorem dX0_mayLie_27 : decode cX0_mayLie 27 = .ok (.ifCond .ne 7, 3) := dk_154 0 7 (dk_at dksX0_mayLie_1 3 rfl rfl)
theorem dX0_mayLie_30 : decode cX0_mayLie 30 = .ok (.iconst (-1), 1) := dk_2 (dk_at dksX0_mayLie_1 6 rfl rfl)
theorem dX0_mayLie_31 : decode cX0_mayLie 31 = .ok (.goto 18, 3) := dk_167 0 18 (dk_at dksX0_mayLie_1 7 rfl rfl)
theorem dX0_mayLie_34 : decode cX0_mayLie 34 = .ok (.aload_n 0, 1) := dk_42 (dk_at dksX0_mayLie_1 10 rfl rfl)
theorem dX0_mayLie_35 : decode cX0_mayLie 35 = .ok (.getfield 74, 3) := dk_180 0 74 (dk_at dksX0_mayLie_1 11 rfl rfl)
theorem dX0_mayLie_38 : decode cX0_mayLie 38 = .ok (.getfield 40, 3) := dk_180 0 40 (dk_at dksX0_mayLie_1 14 rfl rfl)
theorem dX0_mayLie_41 : decode cX0_mayLie 41 = .ok (.iload_n 1, 1) := dk_27 (dk_at dksX0_mayLie_1 17 rfl rfl)
theorem dX0_mayLie_42 : decode cX0_mayLie 42 = .ok (.iconst 1, 1) := dk_4 (dk_at dksX0_mayLie_1 18 rfl rfl)
theorem dX0_mayLie_43 : decode cX0_mayLie 43 = .ok (.isub, 1) := dk_100 (dk_at dksX0_mayLie_1 19 rfl rfl)
theorem dX0_mayLie_44 : decode cX0_mayLie 44 = .ok (.iconst 3, 1) := dk_6 (dk_at dksX0_mayLie_1 20 rfl rfl)
theorem dX0_mayLie_45 : decode cX0_mayLie 45 = .ok (.idiv, 1) := dk_108 (dk_at dksX0_mayLie_1 21 rfl rfl)
theorem dX0_mayLie_46 : decode cX0_mayLie 46 = .ok (.invokestatic 113, 3) := dk_184 0 113 (dk_at dksX0_mayLie_2 0 rfl rfl)
theorem dX0_mayLie_49 : decode cX0_mayLie 49 = .ok (.ireturn, 1) := dk_172 (dk_at dksX0_mayLie_2 3 rfl rfl)
abbrev cX0_rungOnes : ByteArray := prog_1_method_14_code
def yX0_rungOnes : MethodName := ⟨RX0, "rungOnes", "()I"⟩
def dkwX0_rungOnes_1 : List UInt8 := [51, 153, 0, 9, 4, 28, 120, 167, 0, 4, 3, 128, 60, 132, 2, 1, 167, 255, 220, 27, 172]
abbrev dktX0_rungOnes_1 : List UInt8 := dkwX0_rungOnes_1 ++ []
def dkwX0_rungOnes_0 : List UInt8 := [3, 60, 3, 61, 28, 42, 180, 0, 74, 180, 0, 169, 162, 0, 31, 27, 42, 180, 0, 74, 180, 0, 172, 28]
abbrev dktX0_rungOnes_0 : List UInt8 := dkwX0_rungOnes_0 ++ dktX0_rungOnes_1
theorem dksX0_rungOnes_0 : cX0_rungOnes.data.toList.drop 0 = dktX0_rungOnes_0 := by decide +kernel
theorem dksX0_rungOnes_1 : cX0_rungOnes.data.toList.drop 24 = dktX0_rungOnes_1 := dk_seg dksX0_rungOnes_0 24 rfl rfl
theorem dX0_rungOnes_0 : decode cX0_rungOnes 0 = .ok (.iconst 0, 1) := dk_3 (dk_at dksX0_rungOnes_0 0 rfl rfl)
theorem dX0_rungOnes_1 : decode cX0_rungOnes 1 = .ok (.istore_n 1, 1) := dk_60 (dk_at dksX0_rungOnes_0 1 rfl rfl)
theorem dX0_rungOnes_2 : decode cX0_rungOnes 2 = .ok (.iconst 0, 1) := dk_3 (dk_at dksX0_rungOnes_0 2 rfl rfl)
theorem dX0_rungOnes_3 : decode cX0_rungOnes 3 = .ok (.istore_n 2, 1) := dk_61 (dk_at dksX0_rungOnes_0 3 rfl rfl)
theorem dX0_rungOnes_4 : decode cX0_rungOnes 4 = .ok (.iload_n 2, 1) := dk_28 (dk_at dksX0_rungOnes_0 4 rfl rfl)
theorem dX0_rungOnes_5 : decode cX0_rungOnes 5 = .ok (.aload_n 0, 1) := dk_42 (dk_at dksX0_rungOnes_0 5 rfl rfl)
theorem dX0_rungOnes_6 : decode cX0_rungOnes 6 = .ok (.getfield 74, 3) := dk_180 0 74 (dk_at dksX0_rungOnes_0 6 rfl rfl)
theorem dX0_rungOnes_9 : decode cX0_rungOnes 9 = .ok (.getfield 169, 3) := dk_180 0 169 (dk_at dksX0_rungOnes_0 9 rfl rfl)
theorem dX0_rungOnes_12 : decode cX0_rungOnes 12 = .ok (.if_icmp .ge 31, 3) := dk_162 0 31 (dk_at dksX0_rungOnes_0 12 rfl rfl)
theorem dX0_rungOnes_15 : decode cX0_rungOnes 15 = .ok (.iload_n 1, 1) := dk_27 (dk_at dksX0_rungOnes_0 15 rfl rfl)
theorem dX0_rungOnes_16 : decode cX0_rungOnes 16 = .ok (.aload_n 0, 1) := dk_42 (dk_at dksX0_rungOnes_0 16 rfl rfl)
theorem dX0_rungOnes_17 : decode cX0_rungOnes 17 = .ok (.getfield 74, 3) := dk_180 0 74 (dk_at dksX0_rungOnes_0 17 rfl rfl)
theorem dX0_rungOnes_20 : decode cX0_rungOnes 20 = .ok (.getfield 172, 3) := dk_180 0 172 (dk_at dksX0_rungOnes_0 20 rfl rfl)
theorem dX0_rungOnes_23 : decode cX0_rungOnes 23 = .ok (.iload_n 2, 1) := dk_28 (dk_at dksX0_rungOnes_0 23 rfl rfl)
theorem dX0_rungOnes_24 : decode cX0_rungOnes 24 = .ok (.baload, 1) := dk_51 (dk_at dksX0_rungOnes_1 0 rfl rfl)
theorem dX0_rungOnes_25 : decode cX0_rungOnes 25 = .ok (.ifCond .eq 9, 3) := dk_153 0 9 (dk_at dksX0_rungOnes_1 1 rfl rfl)
theorem dX0_rungOnes_28 : decode cX0_rungOnes 28 = .ok (.iconst 1, 1) := dk_4 (dk_at dksX0_rungOnes_1 4 rfl rfl)
theorem dX0_rungOnes_29 : decode cX0_rungOnes 29 = .ok (.iload_n 2, 1) := dk_28 (dk_at dksX0_rungOnes_1 5 rfl rfl)
theorem dX0_rungOnes_30 : decode cX0_rungOnes 30 = .ok (.ishl, 1) := dk_120 (dk_at dksX0_rungOnes_1 6 rfl rfl)
theorem dX0_rungOnes_31 : decode cX0_rungOnes 31 = .ok (.goto 4, 3) := dk_167 0 4 (dk_at dksX0_rungOnes_1 7 rfl rfl)
theorem dX0_rungOnes_34 : decode cX0_rungOnes 34 = .ok (.iconst 0, 1) := dk_3 (dk_at dksX0_rungOnes_1 10 rfl rfl)
theorem dX0_rungOnes_35 : decode cX0_rungOnes 35 = .ok (.ior, 1) := dk_128 (dk_at dksX0_rungOnes_1 11 rfl rfl)
theorem dX0_rungOnes_36 : decode cX0_rungOnes 36 = .ok (.istore_n 1, 1) := dk_60 (dk_at dksX0_rungOnes_1 12 rfl rfl)
theorem dX0_rungOnes_37 : decode cX0_rungOnes 37 = .ok (.iinc 2 1, 3) := dk_132 2 1 (dk_at dksX0_rungOnes_1 13 rfl rfl)
theorem dX0_rungOnes_40 : decode cX0_rungOnes 40 = .ok (.goto (-36), 3) := dk_167 255 220 (dk_at dksX0_rungOnes_1 16 rfl rfl)
theorem dX0_rungOnes_43 : decode cX0_rungOnes 43 = .ok (.iload_n 1, 1) := dk_27 (dk_at dksX0_rungOnes_1 19 rfl rfl)
theorem dX0_rungOnes_44 : decode cX0_rungOnes 44 = .ok (.ireturn, 1) := dk_172 (dk_at dksX0_rungOnes_1 20 rfl rfl)
abbrev cX0_judge : ByteArray := prog_1_method_43_code
def yX0_judge : MethodName := ⟨RX0, "judge", "()I"⟩
def dkwX0_judge_2 : List UInt8 := [132, 1, 1, 167, 255, 208, 2, 172]
abbrev dktX0_judge_2 : List UInt8 := dkwX0_judge_2 ++ []
def dkwX0_judge_1 : List UInt8 := [180, 0, 74, 42, 180, 0, 246, 27, 46, 182, 0, 201, 42, 180, 0, 249, 27, 46, 159, 0, 5, 27, 172]
abbrev dktX0_judge_1 : List UInt8 := dkwX0_judge_1 ++ dktX0_judge_2
def dkwX0_judge_0 : List UInt8 := [3, 60, 27, 42, 180, 0, 160, 162, 0, 46, 42, 42, 180, 0, 246, 27, 46, 182, 0, 194, 153, 0, 25, 42]
abbrev dktX0_judge_0 : List UInt8 := dkwX0_judge_0 ++ dktX0_judge_1
theorem dksX0_judge_0 : cX0_judge.data.toList.drop 0 = dktX0_judge_0 := by decide +kernel
theorem dksX0_judge_1 : cX0_judge.data.toList.drop 24 = dktX0_judge_1 := dk_seg dksX0_judge_0 24 rfl rfl
theorem dksX0_judge_2 : cX0_judge.data.toList.drop 47 = dktX0_judge_2 := dk_seg dksX0_judge_1 23 rfl rfl
theorem dX0_judge_0 : decode cX0_judge 0 = .ok (.iconst 0, 1) := dk_3 (dk_at dksX0_judge_0 0 rfl rfl)
theorem dX0_judge_1 : decode cX0_judge 1 = .ok (.istore_n 1, 1) := dk_60 (dk_at dksX0_judge_0 1 rfl rfl)
theorem dX0_judge_2 : decode cX0_judge 2 = .ok (.iload_n 1, 1) := dk_27 (dk_at dksX0_judge_0 2 rfl rfl)
theorem dX0_judge_3 : decode cX0_judge 3 = .ok (.aload_n 0, 1) := dk_42 (dk_at dksX0_judge_0 3 rfl rfl)
theorem dX0_judge_4 : decode cX0_judge 4 = .ok (.getfield 160, 3) := dk_180 0 160 (dk_at dksX0_judge_0 4 rfl rfl)
theorem dX0_judge_7 : decode cX0_judge 7 = .ok (.if_icmp .ge 46, 3) := dk_162 0 46 (dk_at dksX0_judge_0 7 rfl rfl)
theorem dX0_judge_10 : decode cX0_judge 10 = .ok (.aload_n 0, 1) := dk_42 (dk_at dksX0_judge_0 10 rfl rfl)
theorem dX0_judge_11 : decode cX0_judge 11 = .ok (.aload_n 0, 1) := dk_42 (dk_at dksX0_judge_0 11 rfl rfl)
theorem dX0_judge_12 : decode cX0_judge 12 = .ok (.getfield 246, 3) := dk_180 0 246 (dk_at dksX0_judge_0 12 rfl rfl)
theorem dX0_judge_15 : decode cX0_judge 15 = .ok (.iload_n 1, 1) := dk_27 (dk_at dksX0_judge_0 15 rfl rfl)
theorem dX0_judge_16 : decode cX0_judge 16 = .ok (.iaload, 1) := dk_46 (dk_at dksX0_judge_0 16 rfl rfl)
theorem dX0_judge_17 : decode cX0_judge 17 = .ok (.invokevirtual 194, 3) := dk_182 0 194 (dk_at dksX0_judge_0 17 rfl rfl)
theorem dX0_judge_20 : decode cX0_judge 20 = .ok (.ifCond .eq 25, 3) := dk_153 0 25 (dk_at dksX0_judge_0 20 rfl rfl)
theorem dX0_judge_23 : decode cX0_judge 23 = .ok (.aload_n 0, 1) := dk_42 (dk_at dksX0_judge_0 23 rfl rfl)
theorem dX0_judge_24 : decode cX0_judge 24 = .ok (.getfield 74, 3) := dk_180 0 74 (dk_at dksX0_judge_1 0 rfl rfl)
theorem dX0_judge_27 : decode cX0_judge 27 = .ok (.aload_n 0, 1) := dk_42 (dk_at dksX0_judge_1 3 rfl rfl)
theorem dX0_judge_28 : decode cX0_judge 28 = .ok (.getfield 246, 3) := dk_180 0 246 (dk_at dksX0_judge_1 4 rfl rfl)
theorem dX0_judge_31 : decode cX0_judge 31 = .ok (.iload_n 1, 1) := dk_27 (dk_at dksX0_judge_1 7 rfl rfl)
theorem dX0_judge_32 : decode cX0_judge 32 = .ok (.iaload, 1) := dk_46 (dk_at dksX0_judge_1 8 rfl rfl)
theorem dX0_judge_33 : decode cX0_judge 33 = .ok (.invokevirtual 201, 3) := dk_182 0 201 (dk_at dksX0_judge_1 9 rfl rfl)
theorem dX0_judge_36 : decode cX0_judge 36 = .ok (.aload_n 0, 1) := dk_42 (dk_at dksX0_judge_1 12 rfl rfl)
theorem dX0_judge_37 : decode cX0_judge 37 = .ok (.getfield 249, 3) := dk_180 0 249 (dk_at dksX0_judge_1 13 rfl rfl)
theorem dX0_judge_40 : decode cX0_judge 40 = .ok (.iload_n 1, 1) := dk_27 (dk_at dksX0_judge_1 16 rfl rfl)
theorem dX0_judge_41 : decode cX0_judge 41 = .ok (.iaload, 1) := dk_46 (dk_at dksX0_judge_1 17 rfl rfl)
theorem dX0_judge_42 : decode cX0_judge 42 = .ok (.if_icmp .eq 5, 3) := dk_159 0 5 (dk_at dksX0_judge_1 18 rfl rfl)
theorem dX0_judge_45 : decode cX0_judge 45 = .ok (.iload_n 1, 1) := dk_27 (dk_at dksX0_judge_1 21 rfl rfl)
theorem dX0_judge_46 : decode cX0_judge 46 = .ok (.ireturn, 1) := dk_172 (dk_at dksX0_judge_1 22 rfl rfl)
theorem dX0_judge_47 : decode cX0_judge 47 = .ok (.iinc 1 1, 3) := dk_132 1 1 (dk_at dksX0_judge_2 0 rfl rfl)
theorem dX0_judge_50 : decode cX0_judge 50 = .ok (.goto (-48), 3) := dk_167 255 208 (dk_at dksX0_judge_2 3 rfl rfl)
theorem dX0_judge_53 : decode cX0_judge 53 = .ok (.iconst (-1), 1) := dk_2 (dk_at dksX0_judge_2 6 rfl rfl)
theorem dX0_judge_54 : decode cX0_judge 54 = .ok (.ireturn, 1) := dk_172 (dk_at dksX0_judge_2 7 rfl rfl)
abbrev cX0_isClock : ByteArray := prog_1_method_16_code
def yX0_isClock : MethodName := ⟨RX0, "isClock", "(I)Z"⟩
def dkwX0_isClock_0 : List UInt8 := [27, 133, 9, 42, 180, 0, 74, 180, 0, 28, 4, 100, 133, 184, 0, 118, 172]
abbrev dktX0_isClock_0 : List UInt8 := dkwX0_isClock_0 ++ []
theorem dksX0_isClock_0 : cX0_isClock.data.toList.drop 0 = dktX0_isClock_0 := by decide +kernel
theorem dX0_isClock_0 : decode cX0_isClock 0 = .ok (.iload_n 1, 1) := dk_27 (dk_at dksX0_isClock_0 0 rfl rfl)
theorem dX0_isClock_1 : decode cX0_isClock 1 = .ok (.i2l, 1) := dk_133 (dk_at dksX0_isClock_0 1 rfl rfl)
theorem dX0_isClock_2 : decode cX0_isClock 2 = .ok (.lconst 0, 1) := dk_9 (dk_at dksX0_isClock_0 2 rfl rfl)
theorem dX0_isClock_3 : decode cX0_isClock 3 = .ok (.aload_n 0, 1) := dk_42 (dk_at dksX0_isClock_0 3 rfl rfl)
theorem dX0_isClock_4 : decode cX0_isClock 4 = .ok (.getfield 74, 3) := dk_180 0 74 (dk_at dksX0_isClock_0 4 rfl rfl)
theorem dX0_isClock_7 : decode cX0_isClock 7 = .ok (.getfield 28, 3) := dk_180 0 28 (dk_at dksX0_isClock_0 7 rfl rfl)
theorem dX0_isClock_10 : decode cX0_isClock 10 = .ok (.iconst 1, 1) := dk_4 (dk_at dksX0_isClock_0 10 rfl rfl)
theorem dX0_isClock_11 : decode cX0_isClock 11 = .ok (.isub, 1) := dk_100 (dk_at dksX0_isClock_0 11 rfl rfl)
theorem dX0_isClock_12 : decode cX0_isClock 12 = .ok (.i2l, 1) := dk_133 (dk_at dksX0_isClock_0 12 rfl rfl)
theorem dX0_isClock_13 : decode cX0_isClock 13 = .ok (.invokestatic 118, 3) := dk_184 0 118 (dk_at dksX0_isClock_0 13 rfl rfl)
theorem dX0_isClock_16 : decode cX0_isClock 16 = .ok (.ireturn, 1) := dk_172 (dk_at dksX0_isClock_0 16 rfl rfl)
abbrev cX0_clock : ByteArray := prog_1_method_18_code
def yX0_clock : MethodName := ⟨RX0, "clock", "(II)I"⟩
def dkwX0_clock_5 : List UInt8 := [27, 51, 153, 0, 7, 4, 167, 0, 4, 3, 172, 42, 27, 182, 0, 204, 172, 18, 122, 172]
abbrev dktX0_clock_5 : List UInt8 := dkwX0_clock_5 ++ []
def dkwX0_clock_4 : List UInt8 := [180, 0, 74, 180, 0, 78, 27, 51, 153, 0, 7, 4, 167, 0, 4, 3, 172, 42, 180, 0, 74, 180, 0, 82]
abbrev dktX0_clock_4 : List UInt8 := dkwX0_clock_4 ++ dktX0_clock_5
def dkwX0_clock_3 : List UInt8 := [180, 0, 61, 27, 46, 18, 193, 96, 172, 42, 180, 0, 74, 27, 182, 0, 201, 18, 193, 96, 172, 42]
abbrev dktX0_clock_3 : List UInt8 := dkwX0_clock_3 ++ dktX0_clock_4
def dkwX0_clock_2 : List UInt8 := [42, 180, 0, 74, 180, 0, 58, 27, 46, 172, 42, 180, 0, 74, 180, 0, 198, 27, 46, 172, 42, 180, 0, 74]
abbrev dktX0_clock_2 : List UInt8 := dkwX0_clock_2 ++ dktX0_clock_3
def dkwX0_clock_1 : List UInt8 := [170, 0, 0, 0, 0, 0, 0, 131, 0, 0, 0, 0, 0, 0, 0, 6, 0, 0, 0, 44, 0, 0, 0, 54, 0, 0, 0, 64, 0, 0, 0, 77, 0, 0, 0, 89, 0, 0, 0, 107, 0, 0, 0, 125]
abbrev dktX0_clock_1 : List UInt8 := dkwX0_clock_1 ++ dktX0_clock_2
def dkwX0_clock_0 : List UInt8 := [42, 27, 182, 0, 194, 154, 0, 6, 18, 197, 172, 28]
abbrev dktX0_clock_0 : List UInt8 := dkwX0_clock_0 ++ dktX0_clock_1
theorem dksX0_clock_0 : cX0_clock.data.toList.drop 0 = dktX0_clock_0 := by decide +kernel
theorem dksX0_clock_1 : cX0_clock.data.toList.drop 12 = dktX0_clock_1 := dk_seg dksX0_clock_0 12 rfl rfl
theorem dksX0_clock_2 : cX0_clock.data.toList.drop 56 = dktX0_clock_2 := dk_seg dksX0_clock_1 44 rfl rfl
theorem dksX0_clock_3 : cX0_clock.data.toList.drop 80 = dktX0_clock_3 := dk_seg dksX0_clock_2 24 rfl rfl
theorem dksX0_clock_4 : cX0_clock.data.toList.drop 102 = dktX0_clock_4 := dk_seg dksX0_clock_3 22 rfl rfl
theorem dksX0_clock_5 : cX0_clock.data.toList.drop 126 = dktX0_clock_5 := dk_seg dksX0_clock_4 24 rfl rfl
theorem dX0_clock_0 : decode cX0_clock 0 = .ok (.aload_n 0, 1) := dk_42 (dk_at dksX0_clock_0 0 rfl rfl)
theorem dX0_clock_1 : decode cX0_clock 1 = .ok (.iload_n 1, 1) := dk_27 (dk_at dksX0_clock_0 1 rfl rfl)
theorem dX0_clock_2 : decode cX0_clock 2 = .ok (.invokevirtual 194, 3) := dk_182 0 194 (dk_at dksX0_clock_0 2 rfl rfl)
theorem dX0_clock_5 : decode cX0_clock 5 = .ok (.ifCond .ne 6, 3) := dk_154 0 6 (dk_at dksX0_clock_0 5 rfl rfl)
theorem dX0_clock_8 : decode cX0_clock 8 = .ok (.ldc 197, 2) := dk_18 197 (dk_at dksX0_clock_0 8 rfl rfl)
theorem dX0_clock_10 : decode cX0_clock 10 = .ok (.ireturn, 1) := dk_172 (dk_at dksX0_clock_0 10 rfl rfl)
theorem dX0_clock_11 : decode cX0_clock 11 = .ok (.iload_n 2, 1) := dk_28 (dk_at dksX0_clock_0 11 rfl rfl)
theorem dX0_clock_12 : decode cX0_clock 12 = .ok (.tableswitch 131 0 6 #[44, 54, 64, 77, 89, 107, 125], 44) := by decide +kernel
theorem dX0_clock_56 : decode cX0_clock 56 = .ok (.aload_n 0, 1) := dk_42 (dk_at dksX0_clock_2 0 rfl rfl)
theorem dX0_clock_57 : decode cX0_clock 57 = .ok (.getfield 74, 3) := dk_180 0 74 (dk_at dksX0_clock_2 1 rfl rfl)
theorem dX0_clock_60 : decode cX0_clock 60 = .ok (.getfield 58, 3) := dk_180 0 58 (dk_at dksX0_clock_2 4 rfl rfl)
theorem dX0_clock_63 : decode cX0_clock 63 = .ok (.iload_n 1, 1) := dk_27 (dk_at dksX0_clock_2 7 rfl rfl)
theorem dX0_clock_64 : decode cX0_clock 64 = .ok (.iaload, 1) := dk_46 (dk_at dksX0_clock_2 8 rfl rfl)
theorem dX0_clock_65 : decode cX0_clock 65 = .ok (.ireturn, 1) := dk_172 (dk_at dksX0_clock_2 9 rfl rfl)
theorem dX0_clock_66 : decode cX0_clock 66 = .ok (.aload_n 0, 1) := dk_42 (dk_at dksX0_clock_2 10 rfl rfl)
theorem dX0_clock_67 : decode cX0_clock 67 = .ok (.getfield 74, 3) := dk_180 0 74 (dk_at dksX0_clock_2 11 rfl rfl)
theorem dX0_clock_70 : decode cX0_clock 70 = .ok (.getfield 198, 3) := dk_180 0 198 (dk_at dksX0_clock_2 14 rfl rfl)
theorem dX0_clock_73 : decode cX0_clock 73 = .ok (.iload_n 1, 1) := dk_27 (dk_at dksX0_clock_2 17 rfl rfl)
theorem dX0_clock_74 : decode cX0_clock 74 = .ok (.iaload, 1) := dk_46 (dk_at dksX0_clock_2 18 rfl rfl)
theorem dX0_clock_75 : decode cX0_clock 75 = .ok (.ireturn, 1) := dk_172 (dk_at dksX0_clock_2 19 rfl rfl)
theorem dX0_clock_76 : decode cX0_clock 76 = .ok (.aload_n 0, 1) := dk_42 (dk_at dksX0_clock_2 20 rfl rfl)
theorem dX0_clock_77 : decode cX0_clock 77 = .ok (.getfield 74, 3) := dk_180 0 74 (dk_at dksX0_clock_2 21 rfl rfl)
theorem dX0_clock_80 : decode cX0_clock 80 = .ok (.getfield 61, 3) := dk_180 0 61 (dk_at dksX0_clock_3 0 rfl rfl)
theorem dX0_clock_83 : decode cX0_clock 83 = .ok (.iload_n 1, 1) := dk_27 (dk_at dksX0_clock_3 3 rfl rfl)
theorem dX0_clock_84 : decode cX0_clock 84 = .ok (.iaload, 1) := dk_46 (dk_at dksX0_clock_3 4 rfl rfl)
theorem dX0_clock_85 : decode cX0_clock 85 = .ok (.ldc 193, 2) := dk_18 193 (dk_at dksX0_clock_3 5 rfl rfl)
theorem dX0_clock_87 : decode cX0_clock 87 = .ok (.iadd, 1) := dk_96 (dk_at dksX0_clock_3 7 rfl rfl)
theorem dX0_clock_88 : decode cX0_clock 88 = .ok (.ireturn, 1) := dk_172 (dk_at dksX0_clock_3 8 rfl rfl)
theorem dX0_clock_89 : decode cX0_clock 89 = .ok (.aload_n 0, 1) := dk_42 (dk_at dksX0_clock_3 9 rfl rfl)
theorem dX0_clock_90 : decode cX0_clock 90 = .ok (.getfield 74, 3) := dk_180 0 74 (dk_at dksX0_clock_3 10 rfl rfl)
theorem dX0_clock_93 : decode cX0_clock 93 = .ok (.iload_n 1, 1) := dk_27 (dk_at dksX0_clock_3 13 rfl rfl)
theorem dX0_clock_94 : decode cX0_clock 94 = .ok (.invokevirtual 201, 3) := dk_182 0 201 (dk_at dksX0_clock_3 14 rfl rfl)
theorem dX0_clock_97 : decode cX0_clock 97 = .ok (.ldc 193, 2) := dk_18 193 (dk_at dksX0_clock_3 17 rfl rfl)
theorem dX0_clock_99 : decode cX0_clock 99 = .ok (.iadd, 1) := dk_96 (dk_at dksX0_clock_3 19 rfl rfl)
theorem dX0_clock_100 : decode cX0_clock 100 = .ok (.ireturn, 1) := dk_172 (dk_at dksX0_clock_3 20 rfl rfl)
theorem dX0_clock_101 : decode cX0_clock 101 = .ok (.aload_n 0, 1) := dk_42 (dk_at dksX0_clock_3 21 rfl rfl)
theorem dX0_clock_102 : decode cX0_clock 102 = .ok (.getfield 74, 3) := dk_180 0 74 (dk_at dksX0_clock_4 0 rfl rfl)
theorem dX0_clock_105 : decode cX0_clock 105 = .ok (.getfield 78, 3) := dk_180 0 78 (dk_at dksX0_clock_4 3 rfl rfl)
theorem dX0_clock_108 : decode cX0_clock 108 = .ok (.iload_n 1, 1) := dk_27 (dk_at dksX0_clock_4 6 rfl rfl)
theorem dX0_clock_109 : decode cX0_clock 109 = .ok (.baload, 1) := dk_51 (dk_at dksX0_clock_4 7 rfl rfl)
theorem dX0_clock_110 : decode cX0_clock 110 = .ok (.ifCond .eq 7, 3) := dk_153 0 7 (dk_at dksX0_clock_4 8 rfl rfl)
theorem dX0_clock_113 : decode cX0_clock 113 = .ok (.iconst 1, 1) := dk_4 (dk_at dksX0_clock_4 11 rfl rfl)
theorem dX0_clock_114 : decode cX0_clock 114 = .ok (.goto 4, 3) := dk_167 0 4 (dk_at dksX0_clock_4 12 rfl rfl)
theorem dX0_clock_117 : decode cX0_clock 117 = .ok (.iconst 0, 1) := dk_3 (dk_at dksX0_clock_4 15 rfl rfl)
theorem dX0_clock_118 : decode cX0_clock 118 = .ok (.ireturn, 1) := dk_172 (dk_at dksX0_clock_4 16 rfl rfl)
theorem dX0_clock_119 : decode cX0_clock 119 = .ok (.aload_n 0, 1) := dk_42 (dk_at dksX0_clock_4 17 rfl rfl)
theorem dX0_clock_120 : decode cX0_clock 120 = .ok (.getfield 74, 3) := dk_180 0 74 (dk_at dksX0_clock_4 18 rfl rfl)
theorem dX0_clock_123 : decode cX0_clock 123 = .ok (.getfield 82, 3) := dk_180 0 82 (dk_at dksX0_clock_4 21 rfl rfl)
theorem dX0_clock_126 : decode cX0_clock 126 = .ok (.iload_n 1, 1) := dk_27 (dk_at dksX0_clock_5 0 rfl rfl)
theorem dX0_clock_127 : decode cX0_clock 127 = .ok (.baload, 1) := dk_51 (dk_at dksX0_clock_5 1 rfl rfl)
theorem dX0_clock_128 : decode cX0_clock 128 = .ok (.ifCond .eq 7, 3) := dk_153 0 7 (dk_at dksX0_clock_5 2 rfl rfl)
theorem dX0_clock_131 : decode cX0_clock 131 = .ok (.iconst 1, 1) := dk_4 (dk_at dksX0_clock_5 5 rfl rfl)
theorem dX0_clock_132 : decode cX0_clock 132 = .ok (.goto 4, 3) := dk_167 0 4 (dk_at dksX0_clock_5 6 rfl rfl)
theorem dX0_clock_135 : decode cX0_clock 135 = .ok (.iconst 0, 1) := dk_3 (dk_at dksX0_clock_5 9 rfl rfl)
theorem dX0_clock_136 : decode cX0_clock 136 = .ok (.ireturn, 1) := dk_172 (dk_at dksX0_clock_5 10 rfl rfl)
theorem dX0_clock_137 : decode cX0_clock 137 = .ok (.aload_n 0, 1) := dk_42 (dk_at dksX0_clock_5 11 rfl rfl)
theorem dX0_clock_138 : decode cX0_clock 138 = .ok (.iload_n 1, 1) := dk_27 (dk_at dksX0_clock_5 12 rfl rfl)
theorem dX0_clock_139 : decode cX0_clock 139 = .ok (.invokevirtual 204, 3) := dk_182 0 204 (dk_at dksX0_clock_5 13 rfl rfl)
theorem dX0_clock_142 : decode cX0_clock 142 = .ok (.ireturn, 1) := dk_172 (dk_at dksX0_clock_5 16 rfl rfl)
theorem dX0_clock_143 : decode cX0_clock 143 = .ok (.ldc 122, 2) := dk_18 122 (dk_at dksX0_clock_5 17 rfl rfl)
theorem dX0_clock_145 : decode cX0_clock 145 = .ok (.ireturn, 1) := dk_172 (dk_at dksX0_clock_5 19 rfl rfl)
abbrev cX0_wouldBe : ByteArray := prog_1_method_17_code
def yX0_wouldBe : MethodName := ⟨RX0, "wouldBe", "(I)I"⟩
def dkwX0_wouldBe_1 : List UInt8 := [167, 0, 4, 2, 172, 77, 2, 172]
abbrev dktX0_wouldBe_1 : List UInt8 := dkwX0_wouldBe_1 ++ []
def dkwX0_wouldBe_0 : List UInt8 := [42, 180, 0, 74, 27, 182, 0, 50, 153, 0, 18, 42, 42, 180, 0, 74, 27, 182, 0, 54, 18, 193, 96]
abbrev dktX0_wouldBe_0 : List UInt8 := dkwX0_wouldBe_0 ++ dktX0_wouldBe_1
theorem dksX0_wouldBe_0 : cX0_wouldBe.data.toList.drop 0 = dktX0_wouldBe_0 := by decide +kernel
theorem dksX0_wouldBe_1 : cX0_wouldBe.data.toList.drop 23 = dktX0_wouldBe_1 := dk_seg dksX0_wouldBe_0 23 rfl rfl
theorem dX0_wouldBe_0 : decode cX0_wouldBe 0 = .ok (.aload_n 0, 1) := dk_42 (dk_at dksX0_wouldBe_0 0 rfl rfl)
theorem dX0_wouldBe_1 : decode cX0_wouldBe 1 = .ok (.getfield 74, 3) := dk_180 0 74 (dk_at dksX0_wouldBe_0 1 rfl rfl)
theorem dX0_wouldBe_4 : decode cX0_wouldBe 4 = .ok (.iload_n 1, 1) := dk_27 (dk_at dksX0_wouldBe_0 4 rfl rfl)
theorem dX0_wouldBe_5 : decode cX0_wouldBe 5 = .ok (.invokevirtual 50, 3) := dk_182 0 50 (dk_at dksX0_wouldBe_0 5 rfl rfl)
theorem dX0_wouldBe_8 : decode cX0_wouldBe 8 = .ok (.ifCond .eq 18, 3) := dk_153 0 18 (dk_at dksX0_wouldBe_0 8 rfl rfl)
theorem dX0_wouldBe_11 : decode cX0_wouldBe 11 = .ok (.aload_n 0, 1) := dk_42 (dk_at dksX0_wouldBe_0 11 rfl rfl)
theorem dX0_wouldBe_12 : decode cX0_wouldBe 12 = .ok (.aload_n 0, 1) := dk_42 (dk_at dksX0_wouldBe_0 12 rfl rfl)
theorem dX0_wouldBe_13 : decode cX0_wouldBe 13 = .ok (.getfield 74, 3) := dk_180 0 74 (dk_at dksX0_wouldBe_0 13 rfl rfl)
theorem dX0_wouldBe_16 : decode cX0_wouldBe 16 = .ok (.iload_n 1, 1) := dk_27 (dk_at dksX0_wouldBe_0 16 rfl rfl)
theorem dX0_wouldBe_17 : decode cX0_wouldBe 17 = .ok (.invokevirtual 54, 3) := dk_182 0 54 (dk_at dksX0_wouldBe_0 17 rfl rfl)
theorem dX0_wouldBe_20 : decode cX0_wouldBe 20 = .ok (.ldc 193, 2) := dk_18 193 (dk_at dksX0_wouldBe_0 20 rfl rfl)
theorem dX0_wouldBe_22 : decode cX0_wouldBe 22 = .ok (.iadd, 1) := dk_96 (dk_at dksX0_wouldBe_0 22 rfl rfl)
theorem dX0_wouldBe_23 : decode cX0_wouldBe 23 = .ok (.goto 4, 3) := dk_167 0 4 (dk_at dksX0_wouldBe_1 0 rfl rfl)
theorem dX0_wouldBe_26 : decode cX0_wouldBe 26 = .ok (.iconst (-1), 1) := dk_2 (dk_at dksX0_wouldBe_1 3 rfl rfl)
theorem dX0_wouldBe_27 : decode cX0_wouldBe 27 = .ok (.ireturn, 1) := dk_172 (dk_at dksX0_wouldBe_1 4 rfl rfl)
theorem dX0_wouldBe_28 : decode cX0_wouldBe 28 = .ok (.astore_n 2, 1) := dk_77 (dk_at dksX0_wouldBe_1 5 rfl rfl)
theorem dX0_wouldBe_29 : decode cX0_wouldBe 29 = .ok (.iconst (-1), 1) := dk_2 (dk_at dksX0_wouldBe_1 6 rfl rfl)
theorem dX0_wouldBe_30 : decode cX0_wouldBe 30 = .ok (.ireturn, 1) := dk_172 (dk_at dksX0_wouldBe_1 7 rfl rfl)
abbrev cX0_middleOf : ByteArray := prog_1_method_4_code
def yX0_middleOf : MethodName := ⟨RX0, "middleOf", "(LLiarClocks$House;I)I"⟩
def dkwX0_middleOf_1 : List UInt8 := [182, 0, 36, 132, 3, 1, 167, 255, 235, 42, 43, 180, 0, 40, 182, 0, 43, 172]
abbrev dktX0_middleOf_1 : List UInt8 := dkwX0_middleOf_1 ++ []
def dkwX0_middleOf_0 : List UInt8 := [42, 3, 181, 0, 1, 3, 62, 29, 43, 180, 0, 28, 162, 0, 19, 42, 43, 28, 29, 182, 0, 33]
abbrev dktX0_middleOf_0 : List UInt8 := dkwX0_middleOf_0 ++ dktX0_middleOf_1
theorem dksX0_middleOf_0 : cX0_middleOf.data.toList.drop 0 = dktX0_middleOf_0 := by decide +kernel
theorem dksX0_middleOf_1 : cX0_middleOf.data.toList.drop 22 = dktX0_middleOf_1 := dk_seg dksX0_middleOf_0 22 rfl rfl
theorem dX0_middleOf_0 : decode cX0_middleOf 0 = .ok (.aload_n 0, 1) := dk_42 (dk_at dksX0_middleOf_0 0 rfl rfl)
theorem dX0_middleOf_1 : decode cX0_middleOf 1 = .ok (.iconst 0, 1) := dk_3 (dk_at dksX0_middleOf_0 1 rfl rfl)
theorem dX0_middleOf_2 : decode cX0_middleOf 2 = .ok (.putfield 1, 3) := dk_181 0 1 (dk_at dksX0_middleOf_0 2 rfl rfl)
theorem dX0_middleOf_5 : decode cX0_middleOf 5 = .ok (.iconst 0, 1) := dk_3 (dk_at dksX0_middleOf_0 5 rfl rfl)
theorem dX0_middleOf_6 : decode cX0_middleOf 6 = .ok (.istore_n 3, 1) := dk_62 (dk_at dksX0_middleOf_0 6 rfl rfl)
theorem dX0_middleOf_7 : decode cX0_middleOf 7 = .ok (.iload_n 3, 1) := dk_29 (dk_at dksX0_middleOf_0 7 rfl rfl)
theorem dX0_middleOf_8 : decode cX0_middleOf 8 = .ok (.aload_n 1, 1) := dk_43 (dk_at dksX0_middleOf_0 8 rfl rfl)
theorem dX0_middleOf_9 : decode cX0_middleOf 9 = .ok (.getfield 28, 3) := dk_180 0 28 (dk_at dksX0_middleOf_0 9 rfl rfl)
theorem dX0_middleOf_12 : decode cX0_middleOf 12 = .ok (.if_icmp .ge 19, 3) := dk_162 0 19 (dk_at dksX0_middleOf_0 12 rfl rfl)
theorem dX0_middleOf_15 : decode cX0_middleOf 15 = .ok (.aload_n 0, 1) := dk_42 (dk_at dksX0_middleOf_0 15 rfl rfl)
theorem dX0_middleOf_16 : decode cX0_middleOf 16 = .ok (.aload_n 1, 1) := dk_43 (dk_at dksX0_middleOf_0 16 rfl rfl)
theorem dX0_middleOf_17 : decode cX0_middleOf 17 = .ok (.iload_n 2, 1) := dk_28 (dk_at dksX0_middleOf_0 17 rfl rfl)
theorem dX0_middleOf_18 : decode cX0_middleOf 18 = .ok (.iload_n 3, 1) := dk_29 (dk_at dksX0_middleOf_0 18 rfl rfl)
theorem dX0_middleOf_19 : decode cX0_middleOf 19 = .ok (.invokevirtual 33, 3) := dk_182 0 33 (dk_at dksX0_middleOf_0 19 rfl rfl)
theorem dX0_middleOf_22 : decode cX0_middleOf 22 = .ok (.invokevirtual 36, 3) := dk_182 0 36 (dk_at dksX0_middleOf_1 0 rfl rfl)
theorem dX0_middleOf_25 : decode cX0_middleOf 25 = .ok (.iinc 3 1, 3) := dk_132 3 1 (dk_at dksX0_middleOf_1 3 rfl rfl)
theorem dX0_middleOf_28 : decode cX0_middleOf 28 = .ok (.goto (-21), 3) := dk_167 255 235 (dk_at dksX0_middleOf_1 6 rfl rfl)
theorem dX0_middleOf_31 : decode cX0_middleOf 31 = .ok (.aload_n 0, 1) := dk_42 (dk_at dksX0_middleOf_1 9 rfl rfl)
theorem dX0_middleOf_32 : decode cX0_middleOf 32 = .ok (.aload_n 1, 1) := dk_43 (dk_at dksX0_middleOf_1 10 rfl rfl)
theorem dX0_middleOf_33 : decode cX0_middleOf 33 = .ok (.getfield 40, 3) := dk_180 0 40 (dk_at dksX0_middleOf_1 11 rfl rfl)
theorem dX0_middleOf_36 : decode cX0_middleOf 36 = .ok (.invokevirtual 43, 3) := dk_182 0 43 (dk_at dksX0_middleOf_1 14 rfl rfl)
theorem dX0_middleOf_39 : decode cX0_middleOf 39 = .ok (.ireturn, 1) := dk_172 (dk_at dksX0_middleOf_1 17 rfl rfl)
abbrev cX0_heard : ByteArray := prog_1_method_23_code
def yX0_heard : MethodName := ⟨RX0, "heard", "(III)I"⟩
def dkwX0_heard_4 : List UInt8 := [96, 172, 42, 27, 28, 182, 0, 226, 172, 42, 27, 28, 182, 0, 229, 172, 18, 122, 172]
abbrev dktX0_heard_4 : List UInt8 := dkwX0_heard_4 ++ []
def dkwX0_heard_3 : List UInt8 := [28, 96, 46, 16, 20, 96, 172, 42, 180, 0, 74, 180, 0, 210, 16, 8, 27, 104, 28, 96, 46, 17, 39, 15]
abbrev dktX0_heard_3 : List UInt8 := dkwX0_heard_3 ++ dktX0_heard_4
def dkwX0_heard_2 : List UInt8 := [42, 180, 0, 74, 28, 27, 182, 0, 33, 18, 193, 96, 172, 42, 180, 0, 74, 180, 0, 223, 16, 8, 27, 104]
abbrev dktX0_heard_2 : List UInt8 := dkwX0_heard_2 ++ dktX0_heard_3
def dkwX0_heard_1 : List UInt8 := [170, 0, 0, 0, 0, 0, 99, 0, 0, 0, 0, 0, 0, 0, 4, 0, 0, 0, 35, 0, 0, 0, 48, 0, 0, 0, 66, 0, 0, 0, 85, 0, 0, 0, 92]
abbrev dktX0_heard_1 : List UInt8 := dkwX0_heard_1 ++ dktX0_heard_2
def dkwX0_heard_0 : List UInt8 := [42, 27, 28, 182, 0, 219, 154, 0, 6, 18, 197, 172, 29]
abbrev dktX0_heard_0 : List UInt8 := dkwX0_heard_0 ++ dktX0_heard_1
theorem dksX0_heard_0 : cX0_heard.data.toList.drop 0 = dktX0_heard_0 := by decide +kernel
theorem dksX0_heard_1 : cX0_heard.data.toList.drop 13 = dktX0_heard_1 := dk_seg dksX0_heard_0 13 rfl rfl
theorem dksX0_heard_2 : cX0_heard.data.toList.drop 48 = dktX0_heard_2 := dk_seg dksX0_heard_1 35 rfl rfl
theorem dksX0_heard_3 : cX0_heard.data.toList.drop 72 = dktX0_heard_3 := dk_seg dksX0_heard_2 24 rfl rfl
theorem dksX0_heard_4 : cX0_heard.data.toList.drop 96 = dktX0_heard_4 := dk_seg dksX0_heard_3 24 rfl rfl
theorem dX0_heard_0 : decode cX0_heard 0 = .ok (.aload_n 0, 1) := dk_42 (dk_at dksX0_heard_0 0 rfl rfl)
theorem dX0_heard_1 : decode cX0_heard 1 = .ok (.iload_n 1, 1) := dk_27 (dk_at dksX0_heard_0 1 rfl rfl)
theorem dX0_heard_2 : decode cX0_heard 2 = .ok (.iload_n 2, 1) := dk_28 (dk_at dksX0_heard_0 2 rfl rfl)
theorem dX0_heard_3 : decode cX0_heard 3 = .ok (.invokevirtual 219, 3) := dk_182 0 219 (dk_at dksX0_heard_0 3 rfl rfl)
theorem dX0_heard_6 : decode cX0_heard 6 = .ok (.ifCond .ne 6, 3) := dk_154 0 6 (dk_at dksX0_heard_0 6 rfl rfl)
theorem dX0_heard_9 : decode cX0_heard 9 = .ok (.ldc 197, 2) := dk_18 197 (dk_at dksX0_heard_0 9 rfl rfl)
theorem dX0_heard_11 : decode cX0_heard 11 = .ok (.ireturn, 1) := dk_172 (dk_at dksX0_heard_0 11 rfl rfl)
theorem dX0_heard_12 : decode cX0_heard 12 = .ok (.iload_n 3, 1) := dk_29 (dk_at dksX0_heard_0 12 rfl rfl)
theorem dX0_heard_13 : decode cX0_heard 13 = .ok (.tableswitch 99 0 4 #[35, 48, 66, 85, 92], 35) := by decide +kernel
theorem dX0_heard_48 : decode cX0_heard 48 = .ok (.aload_n 0, 1) := dk_42 (dk_at dksX0_heard_2 0 rfl rfl)
theorem dX0_heard_49 : decode cX0_heard 49 = .ok (.getfield 74, 3) := dk_180 0 74 (dk_at dksX0_heard_2 1 rfl rfl)
theorem dX0_heard_52 : decode cX0_heard 52 = .ok (.iload_n 2, 1) := dk_28 (dk_at dksX0_heard_2 4 rfl rfl)
theorem dX0_heard_53 : decode cX0_heard 53 = .ok (.iload_n 1, 1) := dk_27 (dk_at dksX0_heard_2 5 rfl rfl)
theorem dX0_heard_54 : decode cX0_heard 54 = .ok (.invokevirtual 33, 3) := dk_182 0 33 (dk_at dksX0_heard_2 6 rfl rfl)
theorem dX0_heard_57 : decode cX0_heard 57 = .ok (.ldc 193, 2) := dk_18 193 (dk_at dksX0_heard_2 9 rfl rfl)
theorem dX0_heard_59 : decode cX0_heard 59 = .ok (.iadd, 1) := dk_96 (dk_at dksX0_heard_2 11 rfl rfl)
theorem dX0_heard_60 : decode cX0_heard 60 = .ok (.ireturn, 1) := dk_172 (dk_at dksX0_heard_2 12 rfl rfl)
theorem dX0_heard_61 : decode cX0_heard 61 = .ok (.aload_n 0, 1) := dk_42 (dk_at dksX0_heard_2 13 rfl rfl)
theorem dX0_heard_62 : decode cX0_heard 62 = .ok (.getfield 74, 3) := dk_180 0 74 (dk_at dksX0_heard_2 14 rfl rfl)
theorem dX0_heard_65 : decode cX0_heard 65 = .ok (.getfield 223, 3) := dk_180 0 223 (dk_at dksX0_heard_2 17 rfl rfl)
theorem dX0_heard_68 : decode cX0_heard 68 = .ok (.bipush 8, 2) := dk_16 8 (dk_at dksX0_heard_2 20 rfl rfl)
theorem dX0_heard_70 : decode cX0_heard 70 = .ok (.iload_n 1, 1) := dk_27 (dk_at dksX0_heard_2 22 rfl rfl)
theorem dX0_heard_71 : decode cX0_heard 71 = .ok (.imul, 1) := dk_104 (dk_at dksX0_heard_2 23 rfl rfl)
theorem dX0_heard_72 : decode cX0_heard 72 = .ok (.iload_n 2, 1) := dk_28 (dk_at dksX0_heard_3 0 rfl rfl)
theorem dX0_heard_73 : decode cX0_heard 73 = .ok (.iadd, 1) := dk_96 (dk_at dksX0_heard_3 1 rfl rfl)
theorem dX0_heard_74 : decode cX0_heard 74 = .ok (.iaload, 1) := dk_46 (dk_at dksX0_heard_3 2 rfl rfl)
theorem dX0_heard_75 : decode cX0_heard 75 = .ok (.bipush 20, 2) := dk_16 20 (dk_at dksX0_heard_3 3 rfl rfl)
theorem dX0_heard_77 : decode cX0_heard 77 = .ok (.iadd, 1) := dk_96 (dk_at dksX0_heard_3 5 rfl rfl)
theorem dX0_heard_78 : decode cX0_heard 78 = .ok (.ireturn, 1) := dk_172 (dk_at dksX0_heard_3 6 rfl rfl)
theorem dX0_heard_79 : decode cX0_heard 79 = .ok (.aload_n 0, 1) := dk_42 (dk_at dksX0_heard_3 7 rfl rfl)
theorem dX0_heard_80 : decode cX0_heard 80 = .ok (.getfield 74, 3) := dk_180 0 74 (dk_at dksX0_heard_3 8 rfl rfl)
theorem dX0_heard_83 : decode cX0_heard 83 = .ok (.getfield 210, 3) := dk_180 0 210 (dk_at dksX0_heard_3 11 rfl rfl)
theorem dX0_heard_86 : decode cX0_heard 86 = .ok (.bipush 8, 2) := dk_16 8 (dk_at dksX0_heard_3 14 rfl rfl)
theorem dX0_heard_88 : decode cX0_heard 88 = .ok (.iload_n 1, 1) := dk_27 (dk_at dksX0_heard_3 16 rfl rfl)
theorem dX0_heard_89 : decode cX0_heard 89 = .ok (.imul, 1) := dk_104 (dk_at dksX0_heard_3 17 rfl rfl)
theorem dX0_heard_90 : decode cX0_heard 90 = .ok (.iload_n 2, 1) := dk_28 (dk_at dksX0_heard_3 18 rfl rfl)
theorem dX0_heard_91 : decode cX0_heard 91 = .ok (.iadd, 1) := dk_96 (dk_at dksX0_heard_3 19 rfl rfl)
theorem dX0_heard_92 : decode cX0_heard 92 = .ok (.iaload, 1) := dk_46 (dk_at dksX0_heard_3 20 rfl rfl)
theorem dX0_heard_93 : decode cX0_heard 93 = .ok (.sipush 9999, 3) := dk_17 39 15 (dk_at dksX0_heard_3 21 rfl rfl)
theorem dX0_heard_96 : decode cX0_heard 96 = .ok (.iadd, 1) := dk_96 (dk_at dksX0_heard_4 0 rfl rfl)
theorem dX0_heard_97 : decode cX0_heard 97 = .ok (.ireturn, 1) := dk_172 (dk_at dksX0_heard_4 1 rfl rfl)
theorem dX0_heard_98 : decode cX0_heard 98 = .ok (.aload_n 0, 1) := dk_42 (dk_at dksX0_heard_4 2 rfl rfl)
theorem dX0_heard_99 : decode cX0_heard 99 = .ok (.iload_n 1, 1) := dk_27 (dk_at dksX0_heard_4 3 rfl rfl)
theorem dX0_heard_100 : decode cX0_heard 100 = .ok (.iload_n 2, 1) := dk_28 (dk_at dksX0_heard_4 4 rfl rfl)
theorem dX0_heard_101 : decode cX0_heard 101 = .ok (.invokevirtual 226, 3) := dk_182 0 226 (dk_at dksX0_heard_4 5 rfl rfl)
theorem dX0_heard_104 : decode cX0_heard 104 = .ok (.ireturn, 1) := dk_172 (dk_at dksX0_heard_4 8 rfl rfl)
theorem dX0_heard_105 : decode cX0_heard 105 = .ok (.aload_n 0, 1) := dk_42 (dk_at dksX0_heard_4 9 rfl rfl)
theorem dX0_heard_106 : decode cX0_heard 106 = .ok (.iload_n 1, 1) := dk_27 (dk_at dksX0_heard_4 10 rfl rfl)
theorem dX0_heard_107 : decode cX0_heard 107 = .ok (.iload_n 2, 1) := dk_28 (dk_at dksX0_heard_4 11 rfl rfl)
theorem dX0_heard_108 : decode cX0_heard 108 = .ok (.invokevirtual 229, 3) := dk_182 0 229 (dk_at dksX0_heard_4 12 rfl rfl)
theorem dX0_heard_111 : decode cX0_heard 111 = .ok (.ireturn, 1) := dk_172 (dk_at dksX0_heard_4 15 rfl rfl)
theorem dX0_heard_112 : decode cX0_heard 112 = .ok (.ldc 122, 2) := dk_18 122 (dk_at dksX0_heard_4 16 rfl rfl)
theorem dX0_heard_114 : decode cX0_heard 114 = .ok (.ireturn, 1) := dk_172 (dk_at dksX0_heard_4 18 rfl rfl)
abbrev cX0_arePair : ByteArray := prog_1_method_19_code
def yX0_arePair : MethodName := ⟨RX0, "arePair", "(II)Z"⟩
def dkwX0_arePair_1 : List UInt8 := [167, 0, 4, 3, 172]
abbrev dktX0_arePair_1 : List UInt8 := dkwX0_arePair_1 ++ []
def dkwX0_arePair_0 : List UInt8 := [42, 27, 182, 0, 194, 153, 0, 20, 42, 28, 182, 0, 194, 153, 0, 12, 27, 28, 159, 0, 7, 4]
abbrev dktX0_arePair_0 : List UInt8 := dkwX0_arePair_0 ++ dktX0_arePair_1
theorem dksX0_arePair_0 : cX0_arePair.data.toList.drop 0 = dktX0_arePair_0 := by decide +kernel
theorem dksX0_arePair_1 : cX0_arePair.data.toList.drop 22 = dktX0_arePair_1 := dk_seg dksX0_arePair_0 22 rfl rfl
theorem dX0_arePair_0 : decode cX0_arePair 0 = .ok (.aload_n 0, 1) := dk_42 (dk_at dksX0_arePair_0 0 rfl rfl)
theorem dX0_arePair_1 : decode cX0_arePair 1 = .ok (.iload_n 1, 1) := dk_27 (dk_at dksX0_arePair_0 1 rfl rfl)
theorem dX0_arePair_2 : decode cX0_arePair 2 = .ok (.invokevirtual 194, 3) := dk_182 0 194 (dk_at dksX0_arePair_0 2 rfl rfl)
theorem dX0_arePair_5 : decode cX0_arePair 5 = .ok (.ifCond .eq 20, 3) := dk_153 0 20 (dk_at dksX0_arePair_0 5 rfl rfl)
theorem dX0_arePair_8 : decode cX0_arePair 8 = .ok (.aload_n 0, 1) := dk_42 (dk_at dksX0_arePair_0 8 rfl rfl)
theorem dX0_arePair_9 : decode cX0_arePair 9 = .ok (.iload_n 2, 1) := dk_28 (dk_at dksX0_arePair_0 9 rfl rfl)
theorem dX0_arePair_10 : decode cX0_arePair 10 = .ok (.invokevirtual 194, 3) := dk_182 0 194 (dk_at dksX0_arePair_0 10 rfl rfl)
theorem dX0_arePair_13 : decode cX0_arePair 13 = .ok (.ifCond .eq 12, 3) := dk_153 0 12 (dk_at dksX0_arePair_0 13 rfl rfl)
theorem dX0_arePair_16 : decode cX0_arePair 16 = .ok (.iload_n 1, 1) := dk_27 (dk_at dksX0_arePair_0 16 rfl rfl)
theorem dX0_arePair_17 : decode cX0_arePair 17 = .ok (.iload_n 2, 1) := dk_28 (dk_at dksX0_arePair_0 17 rfl rfl)
theorem dX0_arePair_18 : decode cX0_arePair 18 = .ok (.if_icmp .eq 7, 3) := dk_159 0 7 (dk_at dksX0_arePair_0 18 rfl rfl)
theorem dX0_arePair_21 : decode cX0_arePair 21 = .ok (.iconst 1, 1) := dk_4 (dk_at dksX0_arePair_0 21 rfl rfl)
theorem dX0_arePair_22 : decode cX0_arePair 22 = .ok (.goto 4, 3) := dk_167 0 4 (dk_at dksX0_arePair_1 0 rfl rfl)
theorem dX0_arePair_25 : decode cX0_arePair 25 = .ok (.iconst 0, 1) := dk_3 (dk_at dksX0_arePair_1 3 rfl rfl)
theorem dX0_arePair_26 : decode cX0_arePair 26 = .ok (.ireturn, 1) := dk_172 (dk_at dksX0_arePair_1 4 rfl rfl)
abbrev cX0_rank : ByteArray := prog_1_method_20_code
def yX0_rank : MethodName := ⟨RX0, "rank", "(II)I"⟩
def dkwX0_rank_3 : List UInt8 := [132, 5, 1, 167, 255, 201, 21, 4, 172]
abbrev dktX0_rank_3 : List UInt8 := dkwX0_rank_3 ++ []
def dkwX0_rank_2 : List UInt8 := [161, 0, 15, 21, 6, 29, 160, 0, 13, 21, 5, 27, 162, 0, 7, 4, 167, 0, 4, 3, 96, 54, 4]
abbrev dktX0_rank_2 : List UInt8 := dkwX0_rank_2 ++ dktX0_rank_3
def dkwX0_rank_1 : List UInt8 := [180, 0, 28, 162, 0, 49, 42, 180, 0, 74, 28, 21, 5, 182, 0, 33, 54, 6, 21, 4, 21, 6, 29]
abbrev dktX0_rank_1 : List UInt8 := dkwX0_rank_1 ++ dktX0_rank_2
def dkwX0_rank_0 : List UInt8 := [42, 180, 0, 74, 28, 27, 182, 0, 33, 62, 3, 54, 4, 3, 54, 5, 21, 5, 42, 180, 0, 74]
abbrev dktX0_rank_0 : List UInt8 := dkwX0_rank_0 ++ dktX0_rank_1
theorem dksX0_rank_0 : cX0_rank.data.toList.drop 0 = dktX0_rank_0 := by decide +kernel
theorem dksX0_rank_1 : cX0_rank.data.toList.drop 22 = dktX0_rank_1 := dk_seg dksX0_rank_0 22 rfl rfl
theorem dksX0_rank_2 : cX0_rank.data.toList.drop 45 = dktX0_rank_2 := dk_seg dksX0_rank_1 23 rfl rfl
theorem dksX0_rank_3 : cX0_rank.data.toList.drop 68 = dktX0_rank_3 := dk_seg dksX0_rank_2 23 rfl rfl
theorem dX0_rank_0 : decode cX0_rank 0 = .ok (.aload_n 0, 1) := dk_42 (dk_at dksX0_rank_0 0 rfl rfl)
theorem dX0_rank_1 : decode cX0_rank 1 = .ok (.getfield 74, 3) := dk_180 0 74 (dk_at dksX0_rank_0 1 rfl rfl)
theorem dX0_rank_4 : decode cX0_rank 4 = .ok (.iload_n 2, 1) := dk_28 (dk_at dksX0_rank_0 4 rfl rfl)
theorem dX0_rank_5 : decode cX0_rank 5 = .ok (.iload_n 1, 1) := dk_27 (dk_at dksX0_rank_0 5 rfl rfl)
theorem dX0_rank_6 : decode cX0_rank 6 = .ok (.invokevirtual 33, 3) := dk_182 0 33 (dk_at dksX0_rank_0 6 rfl rfl)
theorem dX0_rank_9 : decode cX0_rank 9 = .ok (.istore_n 3, 1) := dk_62 (dk_at dksX0_rank_0 9 rfl rfl)
theorem dX0_rank_10 : decode cX0_rank 10 = .ok (.iconst 0, 1) := dk_3 (dk_at dksX0_rank_0 10 rfl rfl)
theorem dX0_rank_11 : decode cX0_rank 11 = .ok (.istore 4, 2) := dk_54 4 (dk_at dksX0_rank_0 11 rfl rfl)
theorem dX0_rank_13 : decode cX0_rank 13 = .ok (.iconst 0, 1) := dk_3 (dk_at dksX0_rank_0 13 rfl rfl)
theorem dX0_rank_14 : decode cX0_rank 14 = .ok (.istore 5, 2) := dk_54 5 (dk_at dksX0_rank_0 14 rfl rfl)
theorem dX0_rank_16 : decode cX0_rank 16 = .ok (.iload 5, 2) := dk_21 5 (dk_at dksX0_rank_0 16 rfl rfl)
theorem dX0_rank_18 : decode cX0_rank 18 = .ok (.aload_n 0, 1) := dk_42 (dk_at dksX0_rank_0 18 rfl rfl)
theorem dX0_rank_19 : decode cX0_rank 19 = .ok (.getfield 74, 3) := dk_180 0 74 (dk_at dksX0_rank_0 19 rfl rfl)
theorem dX0_rank_22 : decode cX0_rank 22 = .ok (.getfield 28, 3) := dk_180 0 28 (dk_at dksX0_rank_1 0 rfl rfl)
theorem dX0_rank_25 : decode cX0_rank 25 = .ok (.if_icmp .ge 49, 3) := dk_162 0 49 (dk_at dksX0_rank_1 3 rfl rfl)
theorem dX0_rank_28 : decode cX0_rank 28 = .ok (.aload_n 0, 1) := dk_42 (dk_at dksX0_rank_1 6 rfl rfl)
theorem dX0_rank_29 : decode cX0_rank 29 = .ok (.getfield 74, 3) := dk_180 0 74 (dk_at dksX0_rank_1 7 rfl rfl)
theorem dX0_rank_32 : decode cX0_rank 32 = .ok (.iload_n 2, 1) := dk_28 (dk_at dksX0_rank_1 10 rfl rfl)
theorem dX0_rank_33 : decode cX0_rank 33 = .ok (.iload 5, 2) := dk_21 5 (dk_at dksX0_rank_1 11 rfl rfl)
theorem dX0_rank_35 : decode cX0_rank 35 = .ok (.invokevirtual 33, 3) := dk_182 0 33 (dk_at dksX0_rank_1 13 rfl rfl)
theorem dX0_rank_38 : decode cX0_rank 38 = .ok (.istore 6, 2) := dk_54 6 (dk_at dksX0_rank_1 16 rfl rfl)
theorem dX0_rank_40 : decode cX0_rank 40 = .ok (.iload 4, 2) := dk_21 4 (dk_at dksX0_rank_1 18 rfl rfl)
theorem dX0_rank_42 : decode cX0_rank 42 = .ok (.iload 6, 2) := dk_21 6 (dk_at dksX0_rank_1 20 rfl rfl)
theorem dX0_rank_44 : decode cX0_rank 44 = .ok (.iload_n 3, 1) := dk_29 (dk_at dksX0_rank_1 22 rfl rfl)
theorem dX0_rank_45 : decode cX0_rank 45 = .ok (.if_icmp .lt 15, 3) := dk_161 0 15 (dk_at dksX0_rank_2 0 rfl rfl)
theorem dX0_rank_48 : decode cX0_rank 48 = .ok (.iload 6, 2) := dk_21 6 (dk_at dksX0_rank_2 3 rfl rfl)
theorem dX0_rank_50 : decode cX0_rank 50 = .ok (.iload_n 3, 1) := dk_29 (dk_at dksX0_rank_2 5 rfl rfl)
theorem dX0_rank_51 : decode cX0_rank 51 = .ok (.if_icmp .ne 13, 3) := dk_160 0 13 (dk_at dksX0_rank_2 6 rfl rfl)
theorem dX0_rank_54 : decode cX0_rank 54 = .ok (.iload 5, 2) := dk_21 5 (dk_at dksX0_rank_2 9 rfl rfl)
theorem dX0_rank_56 : decode cX0_rank 56 = .ok (.iload_n 1, 1) := dk_27 (dk_at dksX0_rank_2 11 rfl rfl)
theorem dX0_rank_57 : decode cX0_rank 57 = .ok (.if_icmp .ge 7, 3) := dk_162 0 7 (dk_at dksX0_rank_2 12 rfl rfl)
theorem dX0_rank_60 : decode cX0_rank 60 = .ok (.iconst 1, 1) := dk_4 (dk_at dksX0_rank_2 15 rfl rfl)
theorem dX0_rank_61 : decode cX0_rank 61 = .ok (.goto 4, 3) := dk_167 0 4 (dk_at dksX0_rank_2 16 rfl rfl)
theorem dX0_rank_64 : decode cX0_rank 64 = .ok (.iconst 0, 1) := dk_3 (dk_at dksX0_rank_2 19 rfl rfl)
theorem dX0_rank_65 : decode cX0_rank 65 = .ok (.iadd, 1) := dk_96 (dk_at dksX0_rank_2 20 rfl rfl)
theorem dX0_rank_66 : decode cX0_rank 66 = .ok (.istore 4, 2) := dk_54 4 (dk_at dksX0_rank_2 21 rfl rfl)
theorem dX0_rank_68 : decode cX0_rank 68 = .ok (.iinc 5 1, 3) := dk_132 5 1 (dk_at dksX0_rank_3 0 rfl rfl)
theorem dX0_rank_71 : decode cX0_rank 71 = .ok (.goto (-55), 3) := dk_167 255 201 (dk_at dksX0_rank_3 3 rfl rfl)
theorem dX0_rank_74 : decode cX0_rank 74 = .ok (.iload 4, 2) := dk_21 4 (dk_at dksX0_rank_3 6 rfl rfl)
theorem dX0_rank_76 : decode cX0_rank 76 = .ok (.ireturn, 1) := dk_172 (dk_at dksX0_rank_3 8 rfl rfl)
abbrev cX0_farthest : ByteArray := prog_1_method_21_code
def yX0_farthest : MethodName := ⟨RX0, "farthest", "(II)I"⟩
def dkwX0_farthest_5 : List UInt8 := [196, 132, 0, 5, 39, 15, 167, 255, 196, 29, 17, 39, 15, 96, 172]
abbrev dktX0_farthest_5 : List UInt8 := dkwX0_farthest_5 ++ []
def dkwX0_farthest_4 : List UInt8 := [164, 0, 8, 21, 5, 167, 0, 4, 29, 62, 21, 4, 21, 6, 184, 0, 90, 54, 4]
abbrev dktX0_farthest_4 : List UInt8 := dkwX0_farthest_4 ++ dktX0_farthest_5
def dkwX0_farthest_3 : List UInt8 := [180, 0, 210, 16, 8, 27, 104, 28, 96, 21, 5, 79, 42, 28, 182, 0, 213, 54, 6, 21, 6, 21, 4]
abbrev dktX0_farthest_3 : List UInt8 := dkwX0_farthest_3 ++ dktX0_farthest_4
def dkwX0_farthest_2 : List UInt8 := [17, 216, 241, 62, 2, 54, 4, 17, 216, 241, 54, 5, 21, 5, 17, 39, 15, 163, 0, 58, 42, 180, 0, 207]
abbrev dktX0_farthest_2 : List UInt8 := dkwX0_farthest_2 ++ dktX0_farthest_3
def dkwX0_farthest_1 : List UInt8 := [180, 0, 74, 180, 0, 82, 27, 51, 153, 0, 5, 2, 172, 42, 180, 0, 207, 42, 180, 0, 74, 182, 0, 145]
abbrev dktX0_farthest_1 : List UInt8 := dkwX0_farthest_1 ++ dktX0_farthest_2
def dkwX0_farthest_0 : List UInt8 := [42, 180, 0, 74, 28, 182, 0, 50, 153, 0, 27, 42, 180, 0, 74, 180, 0, 78, 27, 51, 153, 0, 15, 42]
abbrev dktX0_farthest_0 : List UInt8 := dkwX0_farthest_0 ++ dktX0_farthest_1
theorem dksX0_farthest_0 : cX0_farthest.data.toList.drop 0 = dktX0_farthest_0 := by decide +kernel
theorem dksX0_farthest_1 : cX0_farthest.data.toList.drop 24 = dktX0_farthest_1 := dk_seg dksX0_farthest_0 24 rfl rfl
theorem dksX0_farthest_2 : cX0_farthest.data.toList.drop 48 = dktX0_farthest_2 := dk_seg dksX0_farthest_1 24 rfl rfl
theorem dksX0_farthest_3 : cX0_farthest.data.toList.drop 72 = dktX0_farthest_3 := dk_seg dksX0_farthest_2 24 rfl rfl
theorem dksX0_farthest_4 : cX0_farthest.data.toList.drop 95 = dktX0_farthest_4 := dk_seg dksX0_farthest_3 23 rfl rfl
theorem dksX0_farthest_5 : cX0_farthest.data.toList.drop 114 = dktX0_farthest_5 := dk_seg dksX0_farthest_4 19 rfl rfl
theorem dX0_farthest_0 : decode cX0_farthest 0 = .ok (.aload_n 0, 1) := dk_42 (dk_at dksX0_farthest_0 0 rfl rfl)
theorem dX0_farthest_1 : decode cX0_farthest 1 = .ok (.getfield 74, 3) := dk_180 0 74 (dk_at dksX0_farthest_0 1 rfl rfl)
theorem dX0_farthest_4 : decode cX0_farthest 4 = .ok (.iload_n 2, 1) := dk_28 (dk_at dksX0_farthest_0 4 rfl rfl)
theorem dX0_farthest_5 : decode cX0_farthest 5 = .ok (.invokevirtual 50, 3) := dk_182 0 50 (dk_at dksX0_farthest_0 5 rfl rfl)
theorem dX0_farthest_8 : decode cX0_farthest 8 = .ok (.ifCond .eq 27, 3) := dk_153 0 27 (dk_at dksX0_farthest_0 8 rfl rfl)
theorem dX0_farthest_11 : decode cX0_farthest 11 = .ok (.aload_n 0, 1) := dk_42 (dk_at dksX0_farthest_0 11 rfl rfl)
theorem dX0_farthest_12 : decode cX0_farthest 12 = .ok (.getfield 74, 3) := dk_180 0 74 (dk_at dksX0_farthest_0 12 rfl rfl)
theorem dX0_farthest_15 : decode cX0_farthest 15 = .ok (.getfield 78, 3) := dk_180 0 78 (dk_at dksX0_farthest_0 15 rfl rfl)
theorem dX0_farthest_18 : decode cX0_farthest 18 = .ok (.iload_n 1, 1) := dk_27 (dk_at dksX0_farthest_0 18 rfl rfl)
theorem dX0_farthest_19 : decode cX0_farthest 19 = .ok (.baload, 1) := dk_51 (dk_at dksX0_farthest_0 19 rfl rfl)
theorem dX0_farthest_20 : decode cX0_farthest 20 = .ok (.ifCond .eq 15, 3) := dk_153 0 15 (dk_at dksX0_farthest_0 20 rfl rfl)
theorem dX0_farthest_23 : decode cX0_farthest 23 = .ok (.aload_n 0, 1) := dk_42 (dk_at dksX0_farthest_0 23 rfl rfl)
theorem dX0_farthest_24 : decode cX0_farthest 24 = .ok (.getfield 74, 3) := dk_180 0 74 (dk_at dksX0_farthest_1 0 rfl rfl)
theorem dX0_farthest_27 : decode cX0_farthest 27 = .ok (.getfield 82, 3) := dk_180 0 82 (dk_at dksX0_farthest_1 3 rfl rfl)
theorem dX0_farthest_30 : decode cX0_farthest 30 = .ok (.iload_n 1, 1) := dk_27 (dk_at dksX0_farthest_1 6 rfl rfl)
theorem dX0_farthest_31 : decode cX0_farthest 31 = .ok (.baload, 1) := dk_51 (dk_at dksX0_farthest_1 7 rfl rfl)
theorem dX0_farthest_32 : decode cX0_farthest 32 = .ok (.ifCond .eq 5, 3) := dk_153 0 5 (dk_at dksX0_farthest_1 8 rfl rfl)
theorem dX0_farthest_35 : decode cX0_farthest 35 = .ok (.iconst (-1), 1) := dk_2 (dk_at dksX0_farthest_1 11 rfl rfl)
theorem dX0_farthest_36 : decode cX0_farthest 36 = .ok (.ireturn, 1) := dk_172 (dk_at dksX0_farthest_1 12 rfl rfl)
theorem dX0_farthest_37 : decode cX0_farthest 37 = .ok (.aload_n 0, 1) := dk_42 (dk_at dksX0_farthest_1 13 rfl rfl)
theorem dX0_farthest_38 : decode cX0_farthest 38 = .ok (.getfield 207, 3) := dk_180 0 207 (dk_at dksX0_farthest_1 14 rfl rfl)
theorem dX0_farthest_41 : decode cX0_farthest 41 = .ok (.aload_n 0, 1) := dk_42 (dk_at dksX0_farthest_1 17 rfl rfl)
theorem dX0_farthest_42 : decode cX0_farthest 42 = .ok (.getfield 74, 3) := dk_180 0 74 (dk_at dksX0_farthest_1 18 rfl rfl)
theorem dX0_farthest_45 : decode cX0_farthest 45 = .ok (.invokevirtual 145, 3) := dk_182 0 145 (dk_at dksX0_farthest_1 21 rfl rfl)
theorem dX0_farthest_48 : decode cX0_farthest 48 = .ok (.sipush (-9999), 3) := dk_17 216 241 (dk_at dksX0_farthest_2 0 rfl rfl)
theorem dX0_farthest_51 : decode cX0_farthest 51 = .ok (.istore_n 3, 1) := dk_62 (dk_at dksX0_farthest_2 3 rfl rfl)
theorem dX0_farthest_52 : decode cX0_farthest 52 = .ok (.iconst (-1), 1) := dk_2 (dk_at dksX0_farthest_2 4 rfl rfl)
theorem dX0_farthest_53 : decode cX0_farthest 53 = .ok (.istore 4, 2) := dk_54 4 (dk_at dksX0_farthest_2 5 rfl rfl)
theorem dX0_farthest_55 : decode cX0_farthest 55 = .ok (.sipush (-9999), 3) := dk_17 216 241 (dk_at dksX0_farthest_2 7 rfl rfl)
theorem dX0_farthest_58 : decode cX0_farthest 58 = .ok (.istore 5, 2) := dk_54 5 (dk_at dksX0_farthest_2 10 rfl rfl)
theorem dX0_farthest_60 : decode cX0_farthest 60 = .ok (.iload 5, 2) := dk_21 5 (dk_at dksX0_farthest_2 12 rfl rfl)
theorem dX0_farthest_62 : decode cX0_farthest 62 = .ok (.sipush 9999, 3) := dk_17 39 15 (dk_at dksX0_farthest_2 14 rfl rfl)
theorem dX0_farthest_65 : decode cX0_farthest 65 = .ok (.if_icmp .gt 58, 3) := dk_163 0 58 (dk_at dksX0_farthest_2 17 rfl rfl)
theorem dX0_farthest_68 : decode cX0_farthest 68 = .ok (.aload_n 0, 1) := dk_42 (dk_at dksX0_farthest_2 20 rfl rfl)
theorem dX0_farthest_69 : decode cX0_farthest 69 = .ok (.getfield 207, 3) := dk_180 0 207 (dk_at dksX0_farthest_2 21 rfl rfl)
theorem dX0_farthest_72 : decode cX0_farthest 72 = .ok (.getfield 210, 3) := dk_180 0 210 (dk_at dksX0_farthest_3 0 rfl rfl)
theorem dX0_farthest_75 : decode cX0_farthest 75 = .ok (.bipush 8, 2) := dk_16 8 (dk_at dksX0_farthest_3 3 rfl rfl)
theorem dX0_farthest_77 : decode cX0_farthest 77 = .ok (.iload_n 1, 1) := dk_27 (dk_at dksX0_farthest_3 5 rfl rfl)
theorem dX0_farthest_78 : decode cX0_farthest 78 = .ok (.imul, 1) := dk_104 (dk_at dksX0_farthest_3 6 rfl rfl)
theorem dX0_farthest_79 : decode cX0_farthest 79 = .ok (.iload_n 2, 1) := dk_28 (dk_at dksX0_farthest_3 7 rfl rfl)
theorem dX0_farthest_80 : decode cX0_farthest 80 = .ok (.iadd, 1) := dk_96 (dk_at dksX0_farthest_3 8 rfl rfl)
theorem dX0_farthest_81 : decode cX0_farthest 81 = .ok (.iload 5, 2) := dk_21 5 (dk_at dksX0_farthest_3 9 rfl rfl)
theorem dX0_farthest_83 : decode cX0_farthest 83 = .ok (.iastore, 1) := dk_79 (dk_at dksX0_farthest_3 11 rfl rfl)
theorem dX0_farthest_84 : decode cX0_farthest 84 = .ok (.aload_n 0, 1) := dk_42 (dk_at dksX0_farthest_3 12 rfl rfl)
theorem dX0_farthest_85 : decode cX0_farthest 85 = .ok (.iload_n 2, 1) := dk_28 (dk_at dksX0_farthest_3 13 rfl rfl)
theorem dX0_farthest_86 : decode cX0_farthest 86 = .ok (.invokevirtual 213, 3) := dk_182 0 213 (dk_at dksX0_farthest_3 14 rfl rfl)
theorem dX0_farthest_89 : decode cX0_farthest 89 = .ok (.istore 6, 2) := dk_54 6 (dk_at dksX0_farthest_3 17 rfl rfl)
theorem dX0_farthest_91 : decode cX0_farthest 91 = .ok (.iload 6, 2) := dk_21 6 (dk_at dksX0_farthest_3 19 rfl rfl)
theorem dX0_farthest_93 : decode cX0_farthest 93 = .ok (.iload 4, 2) := dk_21 4 (dk_at dksX0_farthest_3 21 rfl rfl)
theorem dX0_farthest_95 : decode cX0_farthest 95 = .ok (.if_icmp .le 8, 3) := dk_164 0 8 (dk_at dksX0_farthest_4 0 rfl rfl)
theorem dX0_farthest_98 : decode cX0_farthest 98 = .ok (.iload 5, 2) := dk_21 5 (dk_at dksX0_farthest_4 3 rfl rfl)
theorem dX0_farthest_100 : decode cX0_farthest 100 = .ok (.goto 4, 3) := dk_167 0 4 (dk_at dksX0_farthest_4 5 rfl rfl)
theorem dX0_farthest_103 : decode cX0_farthest 103 = .ok (.iload_n 3, 1) := dk_29 (dk_at dksX0_farthest_4 8 rfl rfl)
theorem dX0_farthest_104 : decode cX0_farthest 104 = .ok (.istore_n 3, 1) := dk_62 (dk_at dksX0_farthest_4 9 rfl rfl)
theorem dX0_farthest_105 : decode cX0_farthest 105 = .ok (.iload 4, 2) := dk_21 4 (dk_at dksX0_farthest_4 10 rfl rfl)
theorem dX0_farthest_107 : decode cX0_farthest 107 = .ok (.iload 6, 2) := dk_21 6 (dk_at dksX0_farthest_4 12 rfl rfl)
theorem dX0_farthest_109 : decode cX0_farthest 109 = .ok (.invokestatic 90, 3) := dk_184 0 90 (dk_at dksX0_farthest_4 14 rfl rfl)
theorem dX0_farthest_112 : decode cX0_farthest 112 = .ok (.istore 4, 2) := dk_54 4 (dk_at dksX0_farthest_4 17 rfl rfl)
theorem dX0_farthest_114 : decode cX0_farthest 114 = .ok (.iinc 5 9999, 6) := by decide +kernel
theorem dX0_farthest_120 : decode cX0_farthest 120 = .ok (.goto (-60), 3) := dk_167 255 196 (dk_at dksX0_farthest_5 6 rfl rfl)
theorem dX0_farthest_123 : decode cX0_farthest 123 = .ok (.iload_n 3, 1) := dk_29 (dk_at dksX0_farthest_5 9 rfl rfl)
theorem dX0_farthest_124 : decode cX0_farthest 124 = .ok (.sipush 9999, 3) := dk_17 39 15 (dk_at dksX0_farthest_5 10 rfl rfl)
theorem dX0_farthest_127 : decode cX0_farthest 127 = .ok (.iadd, 1) := dk_96 (dk_at dksX0_farthest_5 13 rfl rfl)
theorem dX0_farthest_128 : decode cX0_farthest 128 = .ok (.ireturn, 1) := dk_172 (dk_at dksX0_farthest_5 14 rfl rfl)
abbrev cX0_offOf : ByteArray := prog_1_method_22_code
def yX0_offOf : MethodName := ⟨RX0, "offOf", "(I)I"⟩
def dkwX0_offOf_1 : List UInt8 := [172]
abbrev dktX0_offOf_1 : List UInt8 := dkwX0_offOf_1 ++ []
def dkwX0_offOf_0 : List UInt8 := [42, 42, 180, 0, 207, 27, 182, 0, 54, 42, 180, 0, 207, 27, 182, 0, 201, 100, 184, 0, 216, 172, 77, 3]
abbrev dktX0_offOf_0 : List UInt8 := dkwX0_offOf_0 ++ dktX0_offOf_1
theorem dksX0_offOf_0 : cX0_offOf.data.toList.drop 0 = dktX0_offOf_0 := by decide +kernel
theorem dksX0_offOf_1 : cX0_offOf.data.toList.drop 24 = dktX0_offOf_1 := dk_seg dksX0_offOf_0 24 rfl rfl
theorem dX0_offOf_0 : decode cX0_offOf 0 = .ok (.aload_n 0, 1) := dk_42 (dk_at dksX0_offOf_0 0 rfl rfl)
theorem dX0_offOf_1 : decode cX0_offOf 1 = .ok (.aload_n 0, 1) := dk_42 (dk_at dksX0_offOf_0 1 rfl rfl)
theorem dX0_offOf_2 : decode cX0_offOf 2 = .ok (.getfield 207, 3) := dk_180 0 207 (dk_at dksX0_offOf_0 2 rfl rfl)
theorem dX0_offOf_5 : decode cX0_offOf 5 = .ok (.iload_n 1, 1) := dk_27 (dk_at dksX0_offOf_0 5 rfl rfl)
theorem dX0_offOf_6 : decode cX0_offOf 6 = .ok (.invokevirtual 54, 3) := dk_182 0 54 (dk_at dksX0_offOf_0 6 rfl rfl)
theorem dX0_offOf_9 : decode cX0_offOf 9 = .ok (.aload_n 0, 1) := dk_42 (dk_at dksX0_offOf_0 9 rfl rfl)
theorem dX0_offOf_10 : decode cX0_offOf 10 = .ok (.getfield 207, 3) := dk_180 0 207 (dk_at dksX0_offOf_0 10 rfl rfl)
theorem dX0_offOf_13 : decode cX0_offOf 13 = .ok (.iload_n 1, 1) := dk_27 (dk_at dksX0_offOf_0 13 rfl rfl)
theorem dX0_offOf_14 : decode cX0_offOf 14 = .ok (.invokevirtual 201, 3) := dk_182 0 201 (dk_at dksX0_offOf_0 14 rfl rfl)
theorem dX0_offOf_17 : decode cX0_offOf 17 = .ok (.isub, 1) := dk_100 (dk_at dksX0_offOf_0 17 rfl rfl)
theorem dX0_offOf_18 : decode cX0_offOf 18 = .ok (.invokestatic 216, 3) := dk_184 0 216 (dk_at dksX0_offOf_0 18 rfl rfl)
theorem dX0_offOf_21 : decode cX0_offOf 21 = .ok (.ireturn, 1) := dk_172 (dk_at dksX0_offOf_0 21 rfl rfl)
theorem dX0_offOf_22 : decode cX0_offOf 22 = .ok (.astore_n 2, 1) := dk_77 (dk_at dksX0_offOf_0 22 rfl rfl)
theorem dX0_offOf_23 : decode cX0_offOf 23 = .ok (.iconst 0, 1) := dk_3 (dk_at dksX0_offOf_0 23 rfl rfl)
theorem dX0_offOf_24 : decode cX0_offOf 24 = .ok (.ireturn, 1) := dk_172 (dk_at dksX0_offOf_1 0 rfl rfl)
abbrev cX0_alarmAt : ByteArray := prog_1_method_24_code
def yX0_alarmAt : MethodName := ⟨RX0, "alarmAt", "(II)I"⟩
def dkwX0_alarmAt_3 : List UInt8 := [180, 0, 172, 27, 51, 153, 0, 7, 4, 167, 0, 4, 3, 172, 18, 122, 172]
abbrev dktX0_alarmAt_3 : List UInt8 := dkwX0_alarmAt_3 ++ []
def dkwX0_alarmAt_2 : List UInt8 := [42, 180, 0, 74, 180, 0, 232, 27, 46, 172, 42, 180, 0, 74, 180, 0, 235, 27, 46, 172, 42, 180, 0, 74]
abbrev dktX0_alarmAt_2 : List UInt8 := dkwX0_alarmAt_2 ++ dktX0_alarmAt_3
def dkwX0_alarmAt_1 : List UInt8 := [170, 0, 0, 0, 63, 0, 0, 0, 0, 0, 0, 0, 2, 0, 0, 0, 25, 0, 0, 0, 35, 0, 0, 0, 45]
abbrev dktX0_alarmAt_1 : List UInt8 := dkwX0_alarmAt_1 ++ dktX0_alarmAt_2
def dkwX0_alarmAt_0 : List UInt8 := [27, 133, 9, 42, 180, 0, 74, 180, 0, 169, 4, 100, 133, 184, 0, 118, 154, 0, 6, 18, 197, 172, 28]
abbrev dktX0_alarmAt_0 : List UInt8 := dkwX0_alarmAt_0 ++ dktX0_alarmAt_1
theorem dksX0_alarmAt_0 : cX0_alarmAt.data.toList.drop 0 = dktX0_alarmAt_0 := by decide +kernel
theorem dksX0_alarmAt_1 : cX0_alarmAt.data.toList.drop 23 = dktX0_alarmAt_1 := dk_seg dksX0_alarmAt_0 23 rfl rfl
theorem dksX0_alarmAt_2 : cX0_alarmAt.data.toList.drop 48 = dktX0_alarmAt_2 := dk_seg dksX0_alarmAt_1 25 rfl rfl
theorem dksX0_alarmAt_3 : cX0_alarmAt.data.toList.drop 72 = dktX0_alarmAt_3 := dk_seg dksX0_alarmAt_2 24 rfl rfl
theorem dX0_alarmAt_0 : decode cX0_alarmAt 0 = .ok (.iload_n 1, 1) := dk_27 (dk_at dksX0_alarmAt_0 0 rfl rfl)
theorem dX0_alarmAt_1 : decode cX0_alarmAt 1 = .ok (.i2l, 1) := dk_133 (dk_at dksX0_alarmAt_0 1 rfl rfl)
theorem dX0_alarmAt_2 : decode cX0_alarmAt 2 = .ok (.lconst 0, 1) := dk_9 (dk_at dksX0_alarmAt_0 2 rfl rfl)
theorem dX0_alarmAt_3 : decode cX0_alarmAt 3 = .ok (.aload_n 0, 1) := dk_42 (dk_at dksX0_alarmAt_0 3 rfl rfl)
theorem dX0_alarmAt_4 : decode cX0_alarmAt 4 = .ok (.getfield 74, 3) := dk_180 0 74 (dk_at dksX0_alarmAt_0 4 rfl rfl)
theorem dX0_alarmAt_7 : decode cX0_alarmAt 7 = .ok (.getfield 169, 3) := dk_180 0 169 (dk_at dksX0_alarmAt_0 7 rfl rfl)
theorem dX0_alarmAt_10 : decode cX0_alarmAt 10 = .ok (.iconst 1, 1) := dk_4 (dk_at dksX0_alarmAt_0 10 rfl rfl)
theorem dX0_alarmAt_11 : decode cX0_alarmAt 11 = .ok (.isub, 1) := dk_100 (dk_at dksX0_alarmAt_0 11 rfl rfl)
theorem dX0_alarmAt_12 : decode cX0_alarmAt 12 = .ok (.i2l, 1) := dk_133 (dk_at dksX0_alarmAt_0 12 rfl rfl)
theorem dX0_alarmAt_13 : decode cX0_alarmAt 13 = .ok (.invokestatic 118, 3) := dk_184 0 118 (dk_at dksX0_alarmAt_0 13 rfl rfl)
theorem dX0_alarmAt_16 : decode cX0_alarmAt 16 = .ok (.ifCond .ne 6, 3) := dk_154 0 6 (dk_at dksX0_alarmAt_0 16 rfl rfl)
theorem dX0_alarmAt_19 : decode cX0_alarmAt 19 = .ok (.ldc 197, 2) := dk_18 197 (dk_at dksX0_alarmAt_0 19 rfl rfl)
theorem dX0_alarmAt_21 : decode cX0_alarmAt 21 = .ok (.ireturn, 1) := dk_172 (dk_at dksX0_alarmAt_0 21 rfl rfl)
theorem dX0_alarmAt_22 : decode cX0_alarmAt 22 = .ok (.iload_n 2, 1) := dk_28 (dk_at dksX0_alarmAt_0 22 rfl rfl)
theorem dX0_alarmAt_23 : decode cX0_alarmAt 23 = .ok (.tableswitch 63 0 2 #[25, 35, 45], 25) := by decide +kernel
theorem dX0_alarmAt_48 : decode cX0_alarmAt 48 = .ok (.aload_n 0, 1) := dk_42 (dk_at dksX0_alarmAt_2 0 rfl rfl)
theorem dX0_alarmAt_49 : decode cX0_alarmAt 49 = .ok (.getfield 74, 3) := dk_180 0 74 (dk_at dksX0_alarmAt_2 1 rfl rfl)
theorem dX0_alarmAt_52 : decode cX0_alarmAt 52 = .ok (.getfield 232, 3) := dk_180 0 232 (dk_at dksX0_alarmAt_2 4 rfl rfl)
theorem dX0_alarmAt_55 : decode cX0_alarmAt 55 = .ok (.iload_n 1, 1) := dk_27 (dk_at dksX0_alarmAt_2 7 rfl rfl)
theorem dX0_alarmAt_56 : decode cX0_alarmAt 56 = .ok (.iaload, 1) := dk_46 (dk_at dksX0_alarmAt_2 8 rfl rfl)
theorem dX0_alarmAt_57 : decode cX0_alarmAt 57 = .ok (.ireturn, 1) := dk_172 (dk_at dksX0_alarmAt_2 9 rfl rfl)
theorem dX0_alarmAt_58 : decode cX0_alarmAt 58 = .ok (.aload_n 0, 1) := dk_42 (dk_at dksX0_alarmAt_2 10 rfl rfl)
theorem dX0_alarmAt_59 : decode cX0_alarmAt 59 = .ok (.getfield 74, 3) := dk_180 0 74 (dk_at dksX0_alarmAt_2 11 rfl rfl)
theorem dX0_alarmAt_62 : decode cX0_alarmAt 62 = .ok (.getfield 235, 3) := dk_180 0 235 (dk_at dksX0_alarmAt_2 14 rfl rfl)
theorem dX0_alarmAt_65 : decode cX0_alarmAt 65 = .ok (.iload_n 1, 1) := dk_27 (dk_at dksX0_alarmAt_2 17 rfl rfl)
theorem dX0_alarmAt_66 : decode cX0_alarmAt 66 = .ok (.iaload, 1) := dk_46 (dk_at dksX0_alarmAt_2 18 rfl rfl)
theorem dX0_alarmAt_67 : decode cX0_alarmAt 67 = .ok (.ireturn, 1) := dk_172 (dk_at dksX0_alarmAt_2 19 rfl rfl)
theorem dX0_alarmAt_68 : decode cX0_alarmAt 68 = .ok (.aload_n 0, 1) := dk_42 (dk_at dksX0_alarmAt_2 20 rfl rfl)
theorem dX0_alarmAt_69 : decode cX0_alarmAt 69 = .ok (.getfield 74, 3) := dk_180 0 74 (dk_at dksX0_alarmAt_2 21 rfl rfl)
theorem dX0_alarmAt_72 : decode cX0_alarmAt 72 = .ok (.getfield 172, 3) := dk_180 0 172 (dk_at dksX0_alarmAt_3 0 rfl rfl)
theorem dX0_alarmAt_75 : decode cX0_alarmAt 75 = .ok (.iload_n 1, 1) := dk_27 (dk_at dksX0_alarmAt_3 3 rfl rfl)
theorem dX0_alarmAt_76 : decode cX0_alarmAt 76 = .ok (.baload, 1) := dk_51 (dk_at dksX0_alarmAt_3 4 rfl rfl)
theorem dX0_alarmAt_77 : decode cX0_alarmAt 77 = .ok (.ifCond .eq 7, 3) := dk_153 0 7 (dk_at dksX0_alarmAt_3 5 rfl rfl)
theorem dX0_alarmAt_80 : decode cX0_alarmAt 80 = .ok (.iconst 1, 1) := dk_4 (dk_at dksX0_alarmAt_3 8 rfl rfl)
theorem dX0_alarmAt_81 : decode cX0_alarmAt 81 = .ok (.goto 4, 3) := dk_167 0 4 (dk_at dksX0_alarmAt_3 9 rfl rfl)
theorem dX0_alarmAt_84 : decode cX0_alarmAt 84 = .ok (.iconst 0, 1) := dk_3 (dk_at dksX0_alarmAt_3 12 rfl rfl)
theorem dX0_alarmAt_85 : decode cX0_alarmAt 85 = .ok (.ireturn, 1) := dk_172 (dk_at dksX0_alarmAt_3 13 rfl rfl)
theorem dX0_alarmAt_86 : decode cX0_alarmAt 86 = .ok (.ldc 122, 2) := dk_18 122 (dk_at dksX0_alarmAt_3 14 rfl rfl)
theorem dX0_alarmAt_88 : decode cX0_alarmAt 88 = .ok (.ireturn, 1) := dk_172 (dk_at dksX0_alarmAt_3 16 rfl rfl)
abbrev cX0_init : ByteArray := prog_1_method_25_code
def yX0_init : MethodName := ⟨RX0, "<init>", "()V"⟩
def dkwX0_init_6 : List UInt8 := [183, 0, 241, 83, 132, 1, 1, 167, 255, 234, 177]
abbrev dktX0_init_6 : List UInt8 := dkwX0_init_6 ++ []
def dkwX0_init_5 : List UInt8 := [42, 5, 188, 4, 181, 0, 166, 3, 60, 27, 16, 16, 162, 0, 22, 42, 180, 0, 242, 27, 187, 0, 29, 89]
abbrev dktX0_init_5 : List UInt8 := dkwX0_init_5 ++ dktX0_init_6
def dkwX0_init_4 : List UInt8 := [183, 0, 241, 83, 89, 4, 187, 0, 29, 89, 183, 0, 241, 83, 181, 0, 252, 42, 5, 188, 10, 181, 0, 255]
abbrev dktX0_init_4 : List UInt8 := dkwX0_init_4 ++ dktX0_init_5
def dkwX0_init_3 : List UInt8 := [181, 0, 246, 42, 16, 20, 188, 10, 181, 0, 249, 42, 5, 189, 0, 29, 89, 3, 187, 0, 29, 89]
abbrev dktX0_init_3 : List UInt8 := dkwX0_init_3 ++ dktX0_init_4
def dkwX0_init_2 : List UInt8 := [188, 8, 181, 0, 127, 42, 2, 181, 0, 131, 42, 16, 16, 189, 0, 29, 181, 0, 242, 42, 16, 20, 188, 10]
abbrev dktX0_init_2 : List UInt8 := dkwX0_init_2 ++ dktX0_init_3
def dkwX0_init_1 : List UInt8 := [181, 0, 207, 42, 16, 8, 188, 10, 181, 0, 7, 42, 16, 8, 188, 10, 181, 0, 47, 42, 17, 0, 200]
abbrev dktX0_init_1 : List UInt8 := dkwX0_init_1 ++ dktX0_init_2
def dkwX0_init_0 : List UInt8 := [42, 183, 0, 238, 42, 187, 0, 29, 89, 183, 0, 241, 181, 0, 74, 42, 187, 0, 29, 89, 183, 0, 241]
abbrev dktX0_init_0 : List UInt8 := dkwX0_init_0 ++ dktX0_init_1
theorem dksX0_init_0 : cX0_init.data.toList.drop 0 = dktX0_init_0 := by decide +kernel
theorem dksX0_init_1 : cX0_init.data.toList.drop 23 = dktX0_init_1 := dk_seg dksX0_init_0 23 rfl rfl
theorem dksX0_init_2 : cX0_init.data.toList.drop 46 = dktX0_init_2 := dk_seg dksX0_init_1 23 rfl rfl
theorem dksX0_init_3 : cX0_init.data.toList.drop 70 = dktX0_init_3 := dk_seg dksX0_init_2 24 rfl rfl
theorem dksX0_init_4 : cX0_init.data.toList.drop 92 = dktX0_init_4 := dk_seg dksX0_init_3 22 rfl rfl
theorem dksX0_init_5 : cX0_init.data.toList.drop 116 = dktX0_init_5 := dk_seg dksX0_init_4 24 rfl rfl
theorem dksX0_init_6 : cX0_init.data.toList.drop 140 = dktX0_init_6 := dk_seg dksX0_init_5 24 rfl rfl
theorem dX0_init_0 : decode cX0_init 0 = .ok (.aload_n 0, 1) := dk_42 (dk_at dksX0_init_0 0 rfl rfl)
theorem dX0_init_1 : decode cX0_init 1 = .ok (.invokespecial 238, 3) := dk_183 0 238 (dk_at dksX0_init_0 1 rfl rfl)
theorem dX0_init_4 : decode cX0_init 4 = .ok (.aload_n 0, 1) := dk_42 (dk_at dksX0_init_0 4 rfl rfl)
theorem dX0_init_5 : decode cX0_init 5 = .ok (.new 29, 3) := dk_187 0 29 (dk_at dksX0_init_0 5 rfl rfl)
theorem dX0_init_8 : decode cX0_init 8 = .ok (.dup, 1) := dk_89 (dk_at dksX0_init_0 8 rfl rfl)
theorem dX0_init_9 : decode cX0_init 9 = .ok (.invokespecial 241, 3) := dk_183 0 241 (dk_at dksX0_init_0 9 rfl rfl)
theorem dX0_init_12 : decode cX0_init 12 = .ok (.putfield 74, 3) := dk_181 0 74 (dk_at dksX0_init_0 12 rfl rfl)
theorem dX0_init_15 : decode cX0_init 15 = .ok (.aload_n 0, 1) := dk_42 (dk_at dksX0_init_0 15 rfl rfl)
theorem dX0_init_16 : decode cX0_init 16 = .ok (.new 29, 3) := dk_187 0 29 (dk_at dksX0_init_0 16 rfl rfl)
theorem dX0_init_19 : decode cX0_init 19 = .ok (.dup, 1) := dk_89 (dk_at dksX0_init_0 19 rfl rfl)
theorem dX0_init_20 : decode cX0_init 20 = .ok (.invokespecial 241, 3) := dk_183 0 241 (dk_at dksX0_init_0 20 rfl rfl)
theorem dX0_init_23 : decode cX0_init 23 = .ok (.putfield 207, 3) := dk_181 0 207 (dk_at dksX0_init_1 0 rfl rfl)
theorem dX0_init_26 : decode cX0_init 26 = .ok (.aload_n 0, 1) := dk_42 (dk_at dksX0_init_1 3 rfl rfl)
theorem dX0_init_27 : decode cX0_init 27 = .ok (.bipush 8, 2) := dk_16 8 (dk_at dksX0_init_1 4 rfl rfl)
theorem dX0_init_29 : decode cX0_init 29 = .ok (.newarray .int, 2) := dk_188_10 (dk_at dksX0_init_1 6 rfl rfl)
theorem dX0_init_31 : decode cX0_init 31 = .ok (.putfield 7, 3) := dk_181 0 7 (dk_at dksX0_init_1 8 rfl rfl)
theorem dX0_init_34 : decode cX0_init 34 = .ok (.aload_n 0, 1) := dk_42 (dk_at dksX0_init_1 11 rfl rfl)
theorem dX0_init_35 : decode cX0_init 35 = .ok (.bipush 8, 2) := dk_16 8 (dk_at dksX0_init_1 12 rfl rfl)
theorem dX0_init_37 : decode cX0_init 37 = .ok (.newarray .int, 2) := dk_188_10 (dk_at dksX0_init_1 14 rfl rfl)
theorem dX0_init_39 : decode cX0_init 39 = .ok (.putfield 47, 3) := dk_181 0 47 (dk_at dksX0_init_1 16 rfl rfl)
theorem dX0_init_42 : decode cX0_init 42 = .ok (.aload_n 0, 1) := dk_42 (dk_at dksX0_init_1 19 rfl rfl)
theorem dX0_init_43 : decode cX0_init 43 = .ok (.sipush 200, 3) := dk_17 0 200 (dk_at dksX0_init_1 20 rfl rfl)
theorem dX0_init_46 : decode cX0_init 46 = .ok (.newarray .byte, 2) := dk_188_8 (dk_at dksX0_init_2 0 rfl rfl)
theorem dX0_init_48 : decode cX0_init 48 = .ok (.putfield 127, 3) := dk_181 0 127 (dk_at dksX0_init_2 2 rfl rfl)
theorem dX0_init_51 : decode cX0_init 51 = .ok (.aload_n 0, 1) := dk_42 (dk_at dksX0_init_2 5 rfl rfl)
theorem dX0_init_52 : decode cX0_init 52 = .ok (.iconst (-1), 1) := dk_2 (dk_at dksX0_init_2 6 rfl rfl)
theorem dX0_init_53 : decode cX0_init 53 = .ok (.putfield 131, 3) := dk_181 0 131 (dk_at dksX0_init_2 7 rfl rfl)
theorem dX0_init_56 : decode cX0_init 56 = .ok (.aload_n 0, 1) := dk_42 (dk_at dksX0_init_2 10 rfl rfl)
theorem dX0_init_57 : decode cX0_init 57 = .ok (.bipush 16, 2) := dk_16 16 (dk_at dksX0_init_2 11 rfl rfl)
theorem dX0_init_59 : decode cX0_init 59 = .ok (.anewarray 29, 3) := dk_189 0 29 (dk_at dksX0_init_2 13 rfl rfl)
theorem dX0_init_62 : decode cX0_init 62 = .ok (.putfield 242, 3) := dk_181 0 242 (dk_at dksX0_init_2 16 rfl rfl)
theorem dX0_init_65 : decode cX0_init 65 = .ok (.aload_n 0, 1) := dk_42 (dk_at dksX0_init_2 19 rfl rfl)
theorem dX0_init_66 : decode cX0_init 66 = .ok (.bipush 20, 2) := dk_16 20 (dk_at dksX0_init_2 20 rfl rfl)
theorem dX0_init_68 : decode cX0_init 68 = .ok (.newarray .int, 2) := dk_188_10 (dk_at dksX0_init_2 22 rfl rfl)
theorem dX0_init_70 : decode cX0_init 70 = .ok (.putfield 246, 3) := dk_181 0 246 (dk_at dksX0_init_3 0 rfl rfl)
theorem dX0_init_73 : decode cX0_init 73 = .ok (.aload_n 0, 1) := dk_42 (dk_at dksX0_init_3 3 rfl rfl)
theorem dX0_init_74 : decode cX0_init 74 = .ok (.bipush 20, 2) := dk_16 20 (dk_at dksX0_init_3 4 rfl rfl)
theorem dX0_init_76 : decode cX0_init 76 = .ok (.newarray .int, 2) := dk_188_10 (dk_at dksX0_init_3 6 rfl rfl)
theorem dX0_init_78 : decode cX0_init 78 = .ok (.putfield 249, 3) := dk_181 0 249 (dk_at dksX0_init_3 8 rfl rfl)
theorem dX0_init_81 : decode cX0_init 81 = .ok (.aload_n 0, 1) := dk_42 (dk_at dksX0_init_3 11 rfl rfl)
theorem dX0_init_82 : decode cX0_init 82 = .ok (.iconst 2, 1) := dk_5 (dk_at dksX0_init_3 12 rfl rfl)
theorem dX0_init_83 : decode cX0_init 83 = .ok (.anewarray 29, 3) := dk_189 0 29 (dk_at dksX0_init_3 13 rfl rfl)
theorem dX0_init_86 : decode cX0_init 86 = .ok (.dup, 1) := dk_89 (dk_at dksX0_init_3 16 rfl rfl)
theorem dX0_init_87 : decode cX0_init 87 = .ok (.iconst 0, 1) := dk_3 (dk_at dksX0_init_3 17 rfl rfl)
theorem dX0_init_88 : decode cX0_init 88 = .ok (.new 29, 3) := dk_187 0 29 (dk_at dksX0_init_3 18 rfl rfl)
theorem dX0_init_91 : decode cX0_init 91 = .ok (.dup, 1) := dk_89 (dk_at dksX0_init_3 21 rfl rfl)
theorem dX0_init_92 : decode cX0_init 92 = .ok (.invokespecial 241, 3) := dk_183 0 241 (dk_at dksX0_init_4 0 rfl rfl)
theorem dX0_init_95 : decode cX0_init 95 = .ok (.aastore, 1) := dk_83 (dk_at dksX0_init_4 3 rfl rfl)
theorem dX0_init_96 : decode cX0_init 96 = .ok (.dup, 1) := dk_89 (dk_at dksX0_init_4 4 rfl rfl)
theorem dX0_init_97 : decode cX0_init 97 = .ok (.iconst 1, 1) := dk_4 (dk_at dksX0_init_4 5 rfl rfl)
theorem dX0_init_98 : decode cX0_init 98 = .ok (.new 29, 3) := dk_187 0 29 (dk_at dksX0_init_4 6 rfl rfl)
theorem dX0_init_101 : decode cX0_init 101 = .ok (.dup, 1) := dk_89 (dk_at dksX0_init_4 9 rfl rfl)
theorem dX0_init_102 : decode cX0_init 102 = .ok (.invokespecial 241, 3) := dk_183 0 241 (dk_at dksX0_init_4 10 rfl rfl)
theorem dX0_init_105 : decode cX0_init 105 = .ok (.aastore, 1) := dk_83 (dk_at dksX0_init_4 13 rfl rfl)
theorem dX0_init_106 : decode cX0_init 106 = .ok (.putfield 252, 3) := dk_181 0 252 (dk_at dksX0_init_4 14 rfl rfl)
theorem dX0_init_109 : decode cX0_init 109 = .ok (.aload_n 0, 1) := dk_42 (dk_at dksX0_init_4 17 rfl rfl)
theorem dX0_init_110 : decode cX0_init 110 = .ok (.iconst 2, 1) := dk_5 (dk_at dksX0_init_4 18 rfl rfl)
theorem dX0_init_111 : decode cX0_init 111 = .ok (.newarray .int, 2) := dk_188_10 (dk_at dksX0_init_4 19 rfl rfl)
theorem dX0_init_113 : decode cX0_init 113 = .ok (.putfield 255, 3) := dk_181 0 255 (dk_at dksX0_init_4 21 rfl rfl)
theorem dX0_init_116 : decode cX0_init 116 = .ok (.aload_n 0, 1) := dk_42 (dk_at dksX0_init_5 0 rfl rfl)
theorem dX0_init_117 : decode cX0_init 117 = .ok (.iconst 2, 1) := dk_5 (dk_at dksX0_init_5 1 rfl rfl)
theorem dX0_init_118 : decode cX0_init 118 = .ok (.newarray .boolean, 2) := dk_188_4 (dk_at dksX0_init_5 2 rfl rfl)
theorem dX0_init_120 : decode cX0_init 120 = .ok (.putfield 166, 3) := dk_181 0 166 (dk_at dksX0_init_5 4 rfl rfl)
theorem dX0_init_123 : decode cX0_init 123 = .ok (.iconst 0, 1) := dk_3 (dk_at dksX0_init_5 7 rfl rfl)
theorem dX0_init_124 : decode cX0_init 124 = .ok (.istore_n 1, 1) := dk_60 (dk_at dksX0_init_5 8 rfl rfl)
theorem dX0_init_125 : decode cX0_init 125 = .ok (.iload_n 1, 1) := dk_27 (dk_at dksX0_init_5 9 rfl rfl)
theorem dX0_init_126 : decode cX0_init 126 = .ok (.bipush 16, 2) := dk_16 16 (dk_at dksX0_init_5 10 rfl rfl)
theorem dX0_init_128 : decode cX0_init 128 = .ok (.if_icmp .ge 22, 3) := dk_162 0 22 (dk_at dksX0_init_5 12 rfl rfl)
theorem dX0_init_131 : decode cX0_init 131 = .ok (.aload_n 0, 1) := dk_42 (dk_at dksX0_init_5 15 rfl rfl)
theorem dX0_init_132 : decode cX0_init 132 = .ok (.getfield 242, 3) := dk_180 0 242 (dk_at dksX0_init_5 16 rfl rfl)
theorem dX0_init_135 : decode cX0_init 135 = .ok (.iload_n 1, 1) := dk_27 (dk_at dksX0_init_5 19 rfl rfl)
theorem dX0_init_136 : decode cX0_init 136 = .ok (.new 29, 3) := dk_187 0 29 (dk_at dksX0_init_5 20 rfl rfl)
theorem dX0_init_139 : decode cX0_init 139 = .ok (.dup, 1) := dk_89 (dk_at dksX0_init_5 23 rfl rfl)
theorem dX0_init_140 : decode cX0_init 140 = .ok (.invokespecial 241, 3) := dk_183 0 241 (dk_at dksX0_init_6 0 rfl rfl)
theorem dX0_init_143 : decode cX0_init 143 = .ok (.aastore, 1) := dk_83 (dk_at dksX0_init_6 3 rfl rfl)
theorem dX0_init_144 : decode cX0_init 144 = .ok (.iinc 1 1, 3) := dk_132 1 1 (dk_at dksX0_init_6 4 rfl rfl)
theorem dX0_init_147 : decode cX0_init 147 = .ok (.goto (-22), 3) := dk_167 255 234 (dk_at dksX0_init_6 7 rfl rfl)
theorem dX0_init_150 : decode cX0_init 150 = .ok (.return_, 1) := dk_177 (dk_at dksX0_init_6 10 rfl rfl)
abbrev cX0_tick : ByteArray := prog_1_method_27_code
def yX0_tick : MethodName := ⟨RX0, "tick", "(I)I"⟩
def dkwX0_tick_1 : List UInt8 := [27, 162, 0, 19, 28, 42, 180, 0, 74, 182, 1, 10, 128, 61, 132, 3, 1, 167, 255, 238, 28, 172]
abbrev dktX0_tick_1 : List UInt8 := dkwX0_tick_1 ++ []
def dkwX0_tick_0 : List UInt8 := [27, 133, 10, 20, 1, 5, 184, 0, 118, 154, 0, 6, 18, 122, 172, 42, 182, 1, 7, 3, 61, 3, 62, 29]
abbrev dktX0_tick_0 : List UInt8 := dkwX0_tick_0 ++ dktX0_tick_1
theorem dksX0_tick_0 : cX0_tick.data.toList.drop 0 = dktX0_tick_0 := by decide +kernel
theorem dksX0_tick_1 : cX0_tick.data.toList.drop 24 = dktX0_tick_1 := dk_seg dksX0_tick_0 24 rfl rfl
theorem dX0_tick_0 : decode cX0_tick 0 = .ok (.iload_n 1, 1) := dk_27 (dk_at dksX0_tick_0 0 rfl rfl)
theorem dX0_tick_1 : decode cX0_tick 1 = .ok (.i2l, 1) := dk_133 (dk_at dksX0_tick_0 1 rfl rfl)
theorem dX0_tick_2 : decode cX0_tick 2 = .ok (.lconst 1, 1) := dk_10 (dk_at dksX0_tick_0 2 rfl rfl)
theorem dX0_tick_3 : decode cX0_tick 3 = .ok (.ldc2_w 261, 3) := dk_20 1 5 (dk_at dksX0_tick_0 3 rfl rfl)
theorem dX0_tick_6 : decode cX0_tick 6 = .ok (.invokestatic 118, 3) := dk_184 0 118 (dk_at dksX0_tick_0 6 rfl rfl)
theorem dX0_tick_9 : decode cX0_tick 9 = .ok (.ifCond .ne 6, 3) := dk_154 0 6 (dk_at dksX0_tick_0 9 rfl rfl)
theorem dX0_tick_12 : decode cX0_tick 12 = .ok (.ldc 122, 2) := dk_18 122 (dk_at dksX0_tick_0 12 rfl rfl)
theorem dX0_tick_14 : decode cX0_tick 14 = .ok (.ireturn, 1) := dk_172 (dk_at dksX0_tick_0 14 rfl rfl)
theorem dX0_tick_15 : decode cX0_tick 15 = .ok (.aload_n 0, 1) := dk_42 (dk_at dksX0_tick_0 15 rfl rfl)
theorem dX0_tick_16 : decode cX0_tick 16 = .ok (.invokevirtual 263, 3) := dk_182 1 7 (dk_at dksX0_tick_0 16 rfl rfl)
theorem dX0_tick_19 : decode cX0_tick 19 = .ok (.iconst 0, 1) := dk_3 (dk_at dksX0_tick_0 19 rfl rfl)
theorem dX0_tick_20 : decode cX0_tick 20 = .ok (.istore_n 2, 1) := dk_61 (dk_at dksX0_tick_0 20 rfl rfl)
theorem dX0_tick_21 : decode cX0_tick 21 = .ok (.iconst 0, 1) := dk_3 (dk_at dksX0_tick_0 21 rfl rfl)
theorem dX0_tick_22 : decode cX0_tick 22 = .ok (.istore_n 3, 1) := dk_62 (dk_at dksX0_tick_0 22 rfl rfl)
theorem dX0_tick_23 : decode cX0_tick 23 = .ok (.iload_n 3, 1) := dk_29 (dk_at dksX0_tick_0 23 rfl rfl)
theorem dX0_tick_24 : decode cX0_tick 24 = .ok (.iload_n 1, 1) := dk_27 (dk_at dksX0_tick_1 0 rfl rfl)
theorem dX0_tick_25 : decode cX0_tick 25 = .ok (.if_icmp .ge 19, 3) := dk_162 0 19 (dk_at dksX0_tick_1 1 rfl rfl)
theorem dX0_tick_28 : decode cX0_tick 28 = .ok (.iload_n 2, 1) := dk_28 (dk_at dksX0_tick_1 4 rfl rfl)
theorem dX0_tick_29 : decode cX0_tick 29 = .ok (.aload_n 0, 1) := dk_42 (dk_at dksX0_tick_1 5 rfl rfl)
theorem dX0_tick_30 : decode cX0_tick 30 = .ok (.getfield 74, 3) := dk_180 0 74 (dk_at dksX0_tick_1 6 rfl rfl)
theorem dX0_tick_33 : decode cX0_tick 33 = .ok (.invokevirtual 266, 3) := dk_182 1 10 (dk_at dksX0_tick_1 9 rfl rfl)
theorem dX0_tick_36 : decode cX0_tick 36 = .ok (.ior, 1) := dk_128 (dk_at dksX0_tick_1 12 rfl rfl)
theorem dX0_tick_37 : decode cX0_tick 37 = .ok (.istore_n 2, 1) := dk_61 (dk_at dksX0_tick_1 13 rfl rfl)
theorem dX0_tick_38 : decode cX0_tick 38 = .ok (.iinc 3 1, 3) := dk_132 3 1 (dk_at dksX0_tick_1 14 rfl rfl)
theorem dX0_tick_41 : decode cX0_tick 41 = .ok (.goto (-18), 3) := dk_167 255 238 (dk_at dksX0_tick_1 17 rfl rfl)
theorem dX0_tick_44 : decode cX0_tick 44 = .ok (.iload_n 2, 1) := dk_28 (dk_at dksX0_tick_1 20 rfl rfl)
theorem dX0_tick_45 : decode cX0_tick 45 = .ok (.ireturn, 1) := dk_172 (dk_at dksX0_tick_1 21 rfl rfl)
abbrev cX0_remember : ByteArray := prog_1_method_26_code
def yX0_remember : MethodName := ⟨RX0, "remember", "()V"⟩
def dkwX0_remember_1 : List UInt8 := [180, 0, 74, 182, 0, 145, 42, 16, 16, 42, 180, 0, 163, 4, 96, 184, 0, 113, 181, 0, 163, 177]
abbrev dktX0_remember_1 : List UInt8 := dkwX0_remember_1 ++ []
def dkwX0_remember_0 : List UInt8 := [42, 42, 180, 1, 2, 4, 96, 16, 16, 112, 181, 1, 2, 42, 180, 0, 242, 42, 180, 1, 2, 50, 42]
abbrev dktX0_remember_0 : List UInt8 := dkwX0_remember_0 ++ dktX0_remember_1
theorem dksX0_remember_0 : cX0_remember.data.toList.drop 0 = dktX0_remember_0 := by decide +kernel
theorem dksX0_remember_1 : cX0_remember.data.toList.drop 23 = dktX0_remember_1 := dk_seg dksX0_remember_0 23 rfl rfl
theorem dX0_remember_0 : decode cX0_remember 0 = .ok (.aload_n 0, 1) := dk_42 (dk_at dksX0_remember_0 0 rfl rfl)
theorem dX0_remember_1 : decode cX0_remember 1 = .ok (.aload_n 0, 1) := dk_42 (dk_at dksX0_remember_0 1 rfl rfl)
theorem dX0_remember_2 : decode cX0_remember 2 = .ok (.getfield 258, 3) := dk_180 1 2 (dk_at dksX0_remember_0 2 rfl rfl)
theorem dX0_remember_5 : decode cX0_remember 5 = .ok (.iconst 1, 1) := dk_4 (dk_at dksX0_remember_0 5 rfl rfl)
theorem dX0_remember_6 : decode cX0_remember 6 = .ok (.iadd, 1) := dk_96 (dk_at dksX0_remember_0 6 rfl rfl)
theorem dX0_remember_7 : decode cX0_remember 7 = .ok (.bipush 16, 2) := dk_16 16 (dk_at dksX0_remember_0 7 rfl rfl)
theorem dX0_remember_9 : decode cX0_remember 9 = .ok (.irem, 1) := dk_112 (dk_at dksX0_remember_0 9 rfl rfl)
theorem dX0_remember_10 : decode cX0_remember 10 = .ok (.putfield 258, 3) := dk_181 1 2 (dk_at dksX0_remember_0 10 rfl rfl)
theorem dX0_remember_13 : decode cX0_remember 13 = .ok (.aload_n 0, 1) := dk_42 (dk_at dksX0_remember_0 13 rfl rfl)
theorem dX0_remember_14 : decode cX0_remember 14 = .ok (.getfield 242, 3) := dk_180 0 242 (dk_at dksX0_remember_0 14 rfl rfl)
theorem dX0_remember_17 : decode cX0_remember 17 = .ok (.aload_n 0, 1) := dk_42 (dk_at dksX0_remember_0 17 rfl rfl)
theorem dX0_remember_18 : decode cX0_remember 18 = .ok (.getfield 258, 3) := dk_180 1 2 (dk_at dksX0_remember_0 18 rfl rfl)
theorem dX0_remember_21 : decode cX0_remember 21 = .ok (.aaload, 1) := dk_50 (dk_at dksX0_remember_0 21 rfl rfl)
theorem dX0_remember_22 : decode cX0_remember 22 = .ok (.aload_n 0, 1) := dk_42 (dk_at dksX0_remember_0 22 rfl rfl)
theorem dX0_remember_23 : decode cX0_remember 23 = .ok (.getfield 74, 3) := dk_180 0 74 (dk_at dksX0_remember_1 0 rfl rfl)
theorem dX0_remember_26 : decode cX0_remember 26 = .ok (.invokevirtual 145, 3) := dk_182 0 145 (dk_at dksX0_remember_1 3 rfl rfl)
theorem dX0_remember_29 : decode cX0_remember 29 = .ok (.aload_n 0, 1) := dk_42 (dk_at dksX0_remember_1 6 rfl rfl)
theorem dX0_remember_30 : decode cX0_remember 30 = .ok (.bipush 16, 2) := dk_16 16 (dk_at dksX0_remember_1 7 rfl rfl)
theorem dX0_remember_32 : decode cX0_remember 32 = .ok (.aload_n 0, 1) := dk_42 (dk_at dksX0_remember_1 9 rfl rfl)
theorem dX0_remember_33 : decode cX0_remember 33 = .ok (.getfield 163, 3) := dk_180 0 163 (dk_at dksX0_remember_1 10 rfl rfl)
theorem dX0_remember_36 : decode cX0_remember 36 = .ok (.iconst 1, 1) := dk_4 (dk_at dksX0_remember_1 13 rfl rfl)
theorem dX0_remember_37 : decode cX0_remember 37 = .ok (.iadd, 1) := dk_96 (dk_at dksX0_remember_1 14 rfl rfl)
theorem dX0_remember_38 : decode cX0_remember 38 = .ok (.invokestatic 113, 3) := dk_184 0 113 (dk_at dksX0_remember_1 15 rfl rfl)
theorem dX0_remember_41 : decode cX0_remember 41 = .ok (.putfield 163, 3) := dk_181 0 163 (dk_at dksX0_remember_1 18 rfl rfl)
theorem dX0_remember_44 : decode cX0_remember 44 = .ok (.return_, 1) := dk_177 (dk_at dksX0_remember_1 21 rfl rfl)
abbrev cX0_round : ByteArray := prog_1_method_28_code
def yX0_round : MethodName := ⟨RX0, "round", "()I"⟩
def dkwX0_round_0 : List UInt8 := [42, 182, 1, 7, 42, 42, 180, 0, 74, 182, 1, 13, 42, 180, 0, 74, 182, 0, 102, 172]
abbrev dktX0_round_0 : List UInt8 := dkwX0_round_0 ++ []
theorem dksX0_round_0 : cX0_round.data.toList.drop 0 = dktX0_round_0 := by decide +kernel
theorem dX0_round_0 : decode cX0_round 0 = .ok (.aload_n 0, 1) := dk_42 (dk_at dksX0_round_0 0 rfl rfl)
theorem dX0_round_1 : decode cX0_round 1 = .ok (.invokevirtual 263, 3) := dk_182 1 7 (dk_at dksX0_round_0 1 rfl rfl)
theorem dX0_round_4 : decode cX0_round 4 = .ok (.aload_n 0, 1) := dk_42 (dk_at dksX0_round_0 4 rfl rfl)
theorem dX0_round_5 : decode cX0_round 5 = .ok (.aload_n 0, 1) := dk_42 (dk_at dksX0_round_0 5 rfl rfl)
theorem dX0_round_6 : decode cX0_round 6 = .ok (.getfield 74, 3) := dk_180 0 74 (dk_at dksX0_round_0 6 rfl rfl)
theorem dX0_round_9 : decode cX0_round 9 = .ok (.invokevirtual 269, 3) := dk_182 1 13 (dk_at dksX0_round_0 9 rfl rfl)
theorem dX0_round_12 : decode cX0_round 12 = .ok (.aload_n 0, 1) := dk_42 (dk_at dksX0_round_0 12 rfl rfl)
theorem dX0_round_13 : decode cX0_round 13 = .ok (.getfield 74, 3) := dk_180 0 74 (dk_at dksX0_round_0 13 rfl rfl)
theorem dX0_round_16 : decode cX0_round 16 = .ok (.invokevirtual 102, 3) := dk_182 0 102 (dk_at dksX0_round_0 16 rfl rfl)
theorem dX0_round_19 : decode cX0_round 19 = .ok (.ireturn, 1) := dk_172 (dk_at dksX0_round_0 19 rfl rfl)
abbrev cX0_roundIn : ByteArray := prog_1_method_5_code
def yX0_roundIn : MethodName := ⟨RX0, "roundIn", "(LLiarClocks$House;)V"⟩
def dkwX0_roundIn_3 : List UInt8 := [167, 0, 23, 77, 42, 44, 182, 0, 70, 153, 0, 7, 3, 167, 0, 7, 42, 180, 0, 1, 181, 0, 1, 177]
abbrev dktX0_roundIn_3 : List UInt8 := dkwX0_roundIn_3 ++ []
def dkwX0_roundIn_2 : List UInt8 := [132, 2, 1, 167, 255, 209, 42, 180, 0, 47, 3, 43, 180, 0, 61, 3, 43, 180, 0, 28, 184, 0, 64]
abbrev dktX0_roundIn_2 : List UInt8 := dkwX0_roundIn_2 ++ dktX0_roundIn_3
def dkwX0_roundIn_1 : List UInt8 := [43, 28, 182, 0, 54, 43, 180, 0, 58, 28, 46, 100, 167, 0, 9, 43, 180, 0, 61, 28, 46, 79]
abbrev dktX0_roundIn_1 : List UInt8 := dkwX0_roundIn_1 ++ dktX0_roundIn_2
def dkwX0_roundIn_0 : List UInt8 := [3, 61, 28, 43, 180, 0, 28, 162, 0, 45, 42, 180, 0, 47, 28, 43, 28, 182, 0, 50, 153, 0, 19, 42]
abbrev dktX0_roundIn_0 : List UInt8 := dkwX0_roundIn_0 ++ dktX0_roundIn_1
theorem dksX0_roundIn_0 : cX0_roundIn.data.toList.drop 0 = dktX0_roundIn_0 := by decide +kernel
theorem dksX0_roundIn_1 : cX0_roundIn.data.toList.drop 24 = dktX0_roundIn_1 := dk_seg dksX0_roundIn_0 24 rfl rfl
theorem dksX0_roundIn_2 : cX0_roundIn.data.toList.drop 46 = dktX0_roundIn_2 := dk_seg dksX0_roundIn_1 22 rfl rfl
theorem dksX0_roundIn_3 : cX0_roundIn.data.toList.drop 69 = dktX0_roundIn_3 := dk_seg dksX0_roundIn_2 23 rfl rfl
theorem dX0_roundIn_0 : decode cX0_roundIn 0 = .ok (.iconst 0, 1) := dk_3 (dk_at dksX0_roundIn_0 0 rfl rfl)
theorem dX0_roundIn_1 : decode cX0_roundIn 1 = .ok (.istore_n 2, 1) := dk_61 (dk_at dksX0_roundIn_0 1 rfl rfl)
theorem dX0_roundIn_2 : decode cX0_roundIn 2 = .ok (.iload_n 2, 1) := dk_28 (dk_at dksX0_roundIn_0 2 rfl rfl)
theorem dX0_roundIn_3 : decode cX0_roundIn 3 = .ok (.aload_n 1, 1) := dk_43 (dk_at dksX0_roundIn_0 3 rfl rfl)
theorem dX0_roundIn_4 : decode cX0_roundIn 4 = .ok (.getfield 28, 3) := dk_180 0 28 (dk_at dksX0_roundIn_0 4 rfl rfl)
theorem dX0_roundIn_7 : decode cX0_roundIn 7 = .ok (.if_icmp .ge 45, 3) := dk_162 0 45 (dk_at dksX0_roundIn_0 7 rfl rfl)
theorem dX0_roundIn_10 : decode cX0_roundIn 10 = .ok (.aload_n 0, 1) := dk_42 (dk_at dksX0_roundIn_0 10 rfl rfl)
theorem dX0_roundIn_11 : decode cX0_roundIn 11 = .ok (.getfield 47, 3) := dk_180 0 47 (dk_at dksX0_roundIn_0 11 rfl rfl)
theorem dX0_roundIn_14 : decode cX0_roundIn 14 = .ok (.iload_n 2, 1) := dk_28 (dk_at dksX0_roundIn_0 14 rfl rfl)
theorem dX0_roundIn_15 : decode cX0_roundIn 15 = .ok (.aload_n 1, 1) := dk_43 (dk_at dksX0_roundIn_0 15 rfl rfl)
theorem dX0_roundIn_16 : decode cX0_roundIn 16 = .ok (.iload_n 2, 1) := dk_28 (dk_at dksX0_roundIn_0 16 rfl rfl)
theorem dX0_roundIn_17 : decode cX0_roundIn 17 = .ok (.invokevirtual 50, 3) := dk_182 0 50 (dk_at dksX0_roundIn_0 17 rfl rfl)
theorem dX0_roundIn_20 : decode cX0_roundIn 20 = .ok (.ifCond .eq 19, 3) := dk_153 0 19 (dk_at dksX0_roundIn_0 20 rfl rfl)
theorem dX0_roundIn_23 : decode cX0_roundIn 23 = .ok (.aload_n 0, 1) := dk_42 (dk_at dksX0_roundIn_0 23 rfl rfl)
theorem dX0_roundIn_24 : decode cX0_roundIn 24 = .ok (.aload_n 1, 1) := dk_43 (dk_at dksX0_roundIn_1 0 rfl rfl)
theorem dX0_roundIn_25 : decode cX0_roundIn 25 = .ok (.iload_n 2, 1) := dk_28 (dk_at dksX0_roundIn_1 1 rfl rfl)
theorem dX0_roundIn_26 : decode cX0_roundIn 26 = .ok (.invokevirtual 54, 3) := dk_182 0 54 (dk_at dksX0_roundIn_1 2 rfl rfl)
theorem dX0_roundIn_29 : decode cX0_roundIn 29 = .ok (.aload_n 1, 1) := dk_43 (dk_at dksX0_roundIn_1 5 rfl rfl)
theorem dX0_roundIn_30 : decode cX0_roundIn 30 = .ok (.getfield 58, 3) := dk_180 0 58 (dk_at dksX0_roundIn_1 6 rfl rfl)
theorem dX0_roundIn_33 : decode cX0_roundIn 33 = .ok (.iload_n 2, 1) := dk_28 (dk_at dksX0_roundIn_1 9 rfl rfl)
theorem dX0_roundIn_34 : decode cX0_roundIn 34 = .ok (.iaload, 1) := dk_46 (dk_at dksX0_roundIn_1 10 rfl rfl)
theorem dX0_roundIn_35 : decode cX0_roundIn 35 = .ok (.isub, 1) := dk_100 (dk_at dksX0_roundIn_1 11 rfl rfl)
theorem dX0_roundIn_36 : decode cX0_roundIn 36 = .ok (.goto 9, 3) := dk_167 0 9 (dk_at dksX0_roundIn_1 12 rfl rfl)
theorem dX0_roundIn_39 : decode cX0_roundIn 39 = .ok (.aload_n 1, 1) := dk_43 (dk_at dksX0_roundIn_1 15 rfl rfl)
theorem dX0_roundIn_40 : decode cX0_roundIn 40 = .ok (.getfield 61, 3) := dk_180 0 61 (dk_at dksX0_roundIn_1 16 rfl rfl)
theorem dX0_roundIn_43 : decode cX0_roundIn 43 = .ok (.iload_n 2, 1) := dk_28 (dk_at dksX0_roundIn_1 19 rfl rfl)
theorem dX0_roundIn_44 : decode cX0_roundIn 44 = .ok (.iaload, 1) := dk_46 (dk_at dksX0_roundIn_1 20 rfl rfl)
theorem dX0_roundIn_45 : decode cX0_roundIn 45 = .ok (.iastore, 1) := dk_79 (dk_at dksX0_roundIn_1 21 rfl rfl)
theorem dX0_roundIn_46 : decode cX0_roundIn 46 = .ok (.iinc 2 1, 3) := dk_132 2 1 (dk_at dksX0_roundIn_2 0 rfl rfl)
theorem dX0_roundIn_49 : decode cX0_roundIn 49 = .ok (.goto (-47), 3) := dk_167 255 209 (dk_at dksX0_roundIn_2 3 rfl rfl)
theorem dX0_roundIn_52 : decode cX0_roundIn 52 = .ok (.aload_n 0, 1) := dk_42 (dk_at dksX0_roundIn_2 6 rfl rfl)
theorem dX0_roundIn_53 : decode cX0_roundIn 53 = .ok (.getfield 47, 3) := dk_180 0 47 (dk_at dksX0_roundIn_2 7 rfl rfl)
theorem dX0_roundIn_56 : decode cX0_roundIn 56 = .ok (.iconst 0, 1) := dk_3 (dk_at dksX0_roundIn_2 10 rfl rfl)
theorem dX0_roundIn_57 : decode cX0_roundIn 57 = .ok (.aload_n 1, 1) := dk_43 (dk_at dksX0_roundIn_2 11 rfl rfl)
theorem dX0_roundIn_58 : decode cX0_roundIn 58 = .ok (.getfield 61, 3) := dk_180 0 61 (dk_at dksX0_roundIn_2 12 rfl rfl)
theorem dX0_roundIn_61 : decode cX0_roundIn 61 = .ok (.iconst 0, 1) := dk_3 (dk_at dksX0_roundIn_2 15 rfl rfl)
theorem dX0_roundIn_62 : decode cX0_roundIn 62 = .ok (.aload_n 1, 1) := dk_43 (dk_at dksX0_roundIn_2 16 rfl rfl)
theorem dX0_roundIn_63 : decode cX0_roundIn 63 = .ok (.getfield 28, 3) := dk_180 0 28 (dk_at dksX0_roundIn_2 17 rfl rfl)
theorem dX0_roundIn_66 : decode cX0_roundIn 66 = .ok (.invokestatic 64, 3) := dk_184 0 64 (dk_at dksX0_roundIn_2 20 rfl rfl)
theorem dX0_roundIn_69 : decode cX0_roundIn 69 = .ok (.goto 23, 3) := dk_167 0 23 (dk_at dksX0_roundIn_3 0 rfl rfl)
theorem dX0_roundIn_72 : decode cX0_roundIn 72 = .ok (.astore_n 2, 1) := dk_77 (dk_at dksX0_roundIn_3 3 rfl rfl)
theorem dX0_roundIn_73 : decode cX0_roundIn 73 = .ok (.aload_n 0, 1) := dk_42 (dk_at dksX0_roundIn_3 4 rfl rfl)
theorem dX0_roundIn_74 : decode cX0_roundIn 74 = .ok (.aload_n 2, 1) := dk_44 (dk_at dksX0_roundIn_3 5 rfl rfl)
theorem dX0_roundIn_75 : decode cX0_roundIn 75 = .ok (.invokevirtual 70, 3) := dk_182 0 70 (dk_at dksX0_roundIn_3 6 rfl rfl)
theorem dX0_roundIn_78 : decode cX0_roundIn 78 = .ok (.ifCond .eq 7, 3) := dk_153 0 7 (dk_at dksX0_roundIn_3 9 rfl rfl)
theorem dX0_roundIn_81 : decode cX0_roundIn 81 = .ok (.iconst 0, 1) := dk_3 (dk_at dksX0_roundIn_3 12 rfl rfl)
theorem dX0_roundIn_82 : decode cX0_roundIn 82 = .ok (.goto 7, 3) := dk_167 0 7 (dk_at dksX0_roundIn_3 13 rfl rfl)
theorem dX0_roundIn_85 : decode cX0_roundIn 85 = .ok (.aload_n 0, 1) := dk_42 (dk_at dksX0_roundIn_3 16 rfl rfl)
theorem dX0_roundIn_86 : decode cX0_roundIn 86 = .ok (.getfield 1, 3) := dk_180 0 1 (dk_at dksX0_roundIn_3 17 rfl rfl)
theorem dX0_roundIn_89 : decode cX0_roundIn 89 = .ok (.putfield 1, 3) := dk_181 0 1 (dk_at dksX0_roundIn_3 20 rfl rfl)
theorem dX0_roundIn_92 : decode cX0_roundIn 92 = .ok (.return_, 1) := dk_177 (dk_at dksX0_roundIn_3 23 rfl rfl)
abbrev cX0_lie : ByteArray := prog_1_method_29_code
def yX0_lie : MethodName := ⟨RX0, "lie", "(III)I"⟩
def dkwX0_lie_2 : List UInt8 := [54, 4, 42, 180, 0, 74, 180, 0, 210, 16, 8, 27, 104, 28, 96, 29, 79, 21, 4, 17, 39, 15, 96, 172]
abbrev dktX0_lie_2 : List UInt8 := dkwX0_lie_2 ++ []
def dkwX0_lie_1 : List UInt8 := [154, 0, 6, 18, 122, 172, 42, 182, 1, 7, 42, 180, 0, 74, 180, 0, 210, 16, 8, 27, 104, 28, 96, 46]
abbrev dktX0_lie_1 : List UInt8 := dkwX0_lie_1 ++ dktX0_lie_2
def dkwX0_lie_0 : List UInt8 := [42, 27, 28, 182, 0, 219, 154, 0, 6, 18, 197, 172, 29, 133, 20, 1, 16, 20, 1, 18, 184, 0, 118]
abbrev dktX0_lie_0 : List UInt8 := dkwX0_lie_0 ++ dktX0_lie_1
theorem dksX0_lie_0 : cX0_lie.data.toList.drop 0 = dktX0_lie_0 := by decide +kernel
theorem dksX0_lie_1 : cX0_lie.data.toList.drop 23 = dktX0_lie_1 := dk_seg dksX0_lie_0 23 rfl rfl
theorem dksX0_lie_2 : cX0_lie.data.toList.drop 47 = dktX0_lie_2 := dk_seg dksX0_lie_1 24 rfl rfl
theorem dX0_lie_0 : decode cX0_lie 0 = .ok (.aload_n 0, 1) := dk_42 (dk_at dksX0_lie_0 0 rfl rfl)
theorem dX0_lie_1 : decode cX0_lie 1 = .ok (.iload_n 1, 1) := dk_27 (dk_at dksX0_lie_0 1 rfl rfl)
theorem dX0_lie_2 : decode cX0_lie 2 = .ok (.iload_n 2, 1) := dk_28 (dk_at dksX0_lie_0 2 rfl rfl)
theorem dX0_lie_3 : decode cX0_lie 3 = .ok (.invokevirtual 219, 3) := dk_182 0 219 (dk_at dksX0_lie_0 3 rfl rfl)
theorem dX0_lie_6 : decode cX0_lie 6 = .ok (.ifCond .ne 6, 3) := dk_154 0 6 (dk_at dksX0_lie_0 6 rfl rfl)
theorem dX0_lie_9 : decode cX0_lie 9 = .ok (.ldc 197, 2) := dk_18 197 (dk_at dksX0_lie_0 9 rfl rfl)
theorem dX0_lie_11 : decode cX0_lie 11 = .ok (.ireturn, 1) := dk_172 (dk_at dksX0_lie_0 11 rfl rfl)
theorem dX0_lie_12 : decode cX0_lie 12 = .ok (.iload_n 3, 1) := dk_29 (dk_at dksX0_lie_0 12 rfl rfl)
theorem dX0_lie_13 : decode cX0_lie 13 = .ok (.i2l, 1) := dk_133 (dk_at dksX0_lie_0 13 rfl rfl)
theorem dX0_lie_14 : decode cX0_lie 14 = .ok (.ldc2_w 272, 3) := dk_20 1 16 (dk_at dksX0_lie_0 14 rfl rfl)
theorem dX0_lie_17 : decode cX0_lie 17 = .ok (.ldc2_w 274, 3) := dk_20 1 18 (dk_at dksX0_lie_0 17 rfl rfl)
theorem dX0_lie_20 : decode cX0_lie 20 = .ok (.invokestatic 118, 3) := dk_184 0 118 (dk_at dksX0_lie_0 20 rfl rfl)
theorem dX0_lie_23 : decode cX0_lie 23 = .ok (.ifCond .ne 6, 3) := dk_154 0 6 (dk_at dksX0_lie_1 0 rfl rfl)
theorem dX0_lie_26 : decode cX0_lie 26 = .ok (.ldc 122, 2) := dk_18 122 (dk_at dksX0_lie_1 3 rfl rfl)
theorem dX0_lie_28 : decode cX0_lie 28 = .ok (.ireturn, 1) := dk_172 (dk_at dksX0_lie_1 5 rfl rfl)
theorem dX0_lie_29 : decode cX0_lie 29 = .ok (.aload_n 0, 1) := dk_42 (dk_at dksX0_lie_1 6 rfl rfl)
theorem dX0_lie_30 : decode cX0_lie 30 = .ok (.invokevirtual 263, 3) := dk_182 1 7 (dk_at dksX0_lie_1 7 rfl rfl)
theorem dX0_lie_33 : decode cX0_lie 33 = .ok (.aload_n 0, 1) := dk_42 (dk_at dksX0_lie_1 10 rfl rfl)
theorem dX0_lie_34 : decode cX0_lie 34 = .ok (.getfield 74, 3) := dk_180 0 74 (dk_at dksX0_lie_1 11 rfl rfl)
theorem dX0_lie_37 : decode cX0_lie 37 = .ok (.getfield 210, 3) := dk_180 0 210 (dk_at dksX0_lie_1 14 rfl rfl)
theorem dX0_lie_40 : decode cX0_lie 40 = .ok (.bipush 8, 2) := dk_16 8 (dk_at dksX0_lie_1 17 rfl rfl)
theorem dX0_lie_42 : decode cX0_lie 42 = .ok (.iload_n 1, 1) := dk_27 (dk_at dksX0_lie_1 19 rfl rfl)
theorem dX0_lie_43 : decode cX0_lie 43 = .ok (.imul, 1) := dk_104 (dk_at dksX0_lie_1 20 rfl rfl)
theorem dX0_lie_44 : decode cX0_lie 44 = .ok (.iload_n 2, 1) := dk_28 (dk_at dksX0_lie_1 21 rfl rfl)
theorem dX0_lie_45 : decode cX0_lie 45 = .ok (.iadd, 1) := dk_96 (dk_at dksX0_lie_1 22 rfl rfl)
theorem dX0_lie_46 : decode cX0_lie 46 = .ok (.iaload, 1) := dk_46 (dk_at dksX0_lie_1 23 rfl rfl)
theorem dX0_lie_47 : decode cX0_lie 47 = .ok (.istore 4, 2) := dk_54 4 (dk_at dksX0_lie_2 0 rfl rfl)
theorem dX0_lie_49 : decode cX0_lie 49 = .ok (.aload_n 0, 1) := dk_42 (dk_at dksX0_lie_2 2 rfl rfl)
theorem dX0_lie_50 : decode cX0_lie 50 = .ok (.getfield 74, 3) := dk_180 0 74 (dk_at dksX0_lie_2 3 rfl rfl)
theorem dX0_lie_53 : decode cX0_lie 53 = .ok (.getfield 210, 3) := dk_180 0 210 (dk_at dksX0_lie_2 6 rfl rfl)
theorem dX0_lie_56 : decode cX0_lie 56 = .ok (.bipush 8, 2) := dk_16 8 (dk_at dksX0_lie_2 9 rfl rfl)
theorem dX0_lie_58 : decode cX0_lie 58 = .ok (.iload_n 1, 1) := dk_27 (dk_at dksX0_lie_2 11 rfl rfl)
theorem dX0_lie_59 : decode cX0_lie 59 = .ok (.imul, 1) := dk_104 (dk_at dksX0_lie_2 12 rfl rfl)
theorem dX0_lie_60 : decode cX0_lie 60 = .ok (.iload_n 2, 1) := dk_28 (dk_at dksX0_lie_2 13 rfl rfl)
theorem dX0_lie_61 : decode cX0_lie 61 = .ok (.iadd, 1) := dk_96 (dk_at dksX0_lie_2 14 rfl rfl)
theorem dX0_lie_62 : decode cX0_lie 62 = .ok (.iload_n 3, 1) := dk_29 (dk_at dksX0_lie_2 15 rfl rfl)
theorem dX0_lie_63 : decode cX0_lie 63 = .ok (.iastore, 1) := dk_79 (dk_at dksX0_lie_2 16 rfl rfl)
theorem dX0_lie_64 : decode cX0_lie 64 = .ok (.iload 4, 2) := dk_21 4 (dk_at dksX0_lie_2 17 rfl rfl)
theorem dX0_lie_66 : decode cX0_lie 66 = .ok (.sipush 9999, 3) := dk_17 39 15 (dk_at dksX0_lie_2 19 rfl rfl)
theorem dX0_lie_69 : decode cX0_lie 69 = .ok (.iadd, 1) := dk_96 (dk_at dksX0_lie_2 22 rfl rfl)
theorem dX0_lie_70 : decode cX0_lie 70 = .ok (.ireturn, 1) := dk_172 (dk_at dksX0_lie_2 23 rfl rfl)
abbrev cX0_error : ByteArray := prog_1_method_30_code
def yX0_error : MethodName := ⟨RX0, "error", "(III)I"⟩
def dkwX0_error_2 : List UInt8 := [54, 4, 42, 180, 0, 74, 180, 0, 223, 16, 8, 27, 104, 28, 96, 29, 79, 21, 4, 16, 20, 96, 172]
abbrev dktX0_error_2 : List UInt8 := dkwX0_error_2 ++ []
def dkwX0_error_1 : List UInt8 := [154, 0, 6, 18, 122, 172, 42, 182, 1, 7, 42, 180, 0, 74, 180, 0, 223, 16, 8, 27, 104, 28, 96, 46]
abbrev dktX0_error_1 : List UInt8 := dkwX0_error_1 ++ dktX0_error_2
def dkwX0_error_0 : List UInt8 := [42, 27, 28, 182, 0, 219, 154, 0, 6, 18, 197, 172, 29, 133, 20, 1, 20, 20, 1, 5, 184, 0, 118]
abbrev dktX0_error_0 : List UInt8 := dkwX0_error_0 ++ dktX0_error_1
theorem dksX0_error_0 : cX0_error.data.toList.drop 0 = dktX0_error_0 := by decide +kernel
theorem dksX0_error_1 : cX0_error.data.toList.drop 23 = dktX0_error_1 := dk_seg dksX0_error_0 23 rfl rfl
theorem dksX0_error_2 : cX0_error.data.toList.drop 47 = dktX0_error_2 := dk_seg dksX0_error_1 24 rfl rfl
theorem dX0_error_0 : decode cX0_error 0 = .ok (.aload_n 0, 1) := dk_42 (dk_at dksX0_error_0 0 rfl rfl)
theorem dX0_error_1 : decode cX0_error 1 = .ok (.iload_n 1, 1) := dk_27 (dk_at dksX0_error_0 1 rfl rfl)
theorem dX0_error_2 : decode cX0_error 2 = .ok (.iload_n 2, 1) := dk_28 (dk_at dksX0_error_0 2 rfl rfl)
theorem dX0_error_3 : decode cX0_error 3 = .ok (.invokevirtual 219, 3) := dk_182 0 219 (dk_at dksX0_error_0 3 rfl rfl)
theorem dX0_error_6 : decode cX0_error 6 = .ok (.ifCond .ne 6, 3) := dk_154 0 6 (dk_at dksX0_error_0 6 rfl rfl)
theorem dX0_error_9 : decode cX0_error 9 = .ok (.ldc 197, 2) := dk_18 197 (dk_at dksX0_error_0 9 rfl rfl)
theorem dX0_error_11 : decode cX0_error 11 = .ok (.ireturn, 1) := dk_172 (dk_at dksX0_error_0 11 rfl rfl)
theorem dX0_error_12 : decode cX0_error 12 = .ok (.iload_n 3, 1) := dk_29 (dk_at dksX0_error_0 12 rfl rfl)
theorem dX0_error_13 : decode cX0_error 13 = .ok (.i2l, 1) := dk_133 (dk_at dksX0_error_0 13 rfl rfl)
theorem dX0_error_14 : decode cX0_error 14 = .ok (.ldc2_w 276, 3) := dk_20 1 20 (dk_at dksX0_error_0 14 rfl rfl)
theorem dX0_error_17 : decode cX0_error 17 = .ok (.ldc2_w 261, 3) := dk_20 1 5 (dk_at dksX0_error_0 17 rfl rfl)
theorem dX0_error_20 : decode cX0_error 20 = .ok (.invokestatic 118, 3) := dk_184 0 118 (dk_at dksX0_error_0 20 rfl rfl)
theorem dX0_error_23 : decode cX0_error 23 = .ok (.ifCond .ne 6, 3) := dk_154 0 6 (dk_at dksX0_error_1 0 rfl rfl)
theorem dX0_error_26 : decode cX0_error 26 = .ok (.ldc 122, 2) := dk_18 122 (dk_at dksX0_error_1 3 rfl rfl)
theorem dX0_error_28 : decode cX0_error 28 = .ok (.ireturn, 1) := dk_172 (dk_at dksX0_error_1 5 rfl rfl)
theorem dX0_error_29 : decode cX0_error 29 = .ok (.aload_n 0, 1) := dk_42 (dk_at dksX0_error_1 6 rfl rfl)
theorem dX0_error_30 : decode cX0_error 30 = .ok (.invokevirtual 263, 3) := dk_182 1 7 (dk_at dksX0_error_1 7 rfl rfl)
theorem dX0_error_33 : decode cX0_error 33 = .ok (.aload_n 0, 1) := dk_42 (dk_at dksX0_error_1 10 rfl rfl)
theorem dX0_error_34 : decode cX0_error 34 = .ok (.getfield 74, 3) := dk_180 0 74 (dk_at dksX0_error_1 11 rfl rfl)
theorem dX0_error_37 : decode cX0_error 37 = .ok (.getfield 223, 3) := dk_180 0 223 (dk_at dksX0_error_1 14 rfl rfl)
theorem dX0_error_40 : decode cX0_error 40 = .ok (.bipush 8, 2) := dk_16 8 (dk_at dksX0_error_1 17 rfl rfl)
theorem dX0_error_42 : decode cX0_error 42 = .ok (.iload_n 1, 1) := dk_27 (dk_at dksX0_error_1 19 rfl rfl)
theorem dX0_error_43 : decode cX0_error 43 = .ok (.imul, 1) := dk_104 (dk_at dksX0_error_1 20 rfl rfl)
theorem dX0_error_44 : decode cX0_error 44 = .ok (.iload_n 2, 1) := dk_28 (dk_at dksX0_error_1 21 rfl rfl)
theorem dX0_error_45 : decode cX0_error 45 = .ok (.iadd, 1) := dk_96 (dk_at dksX0_error_1 22 rfl rfl)
theorem dX0_error_46 : decode cX0_error 46 = .ok (.iaload, 1) := dk_46 (dk_at dksX0_error_1 23 rfl rfl)
theorem dX0_error_47 : decode cX0_error 47 = .ok (.istore 4, 2) := dk_54 4 (dk_at dksX0_error_2 0 rfl rfl)
theorem dX0_error_49 : decode cX0_error 49 = .ok (.aload_n 0, 1) := dk_42 (dk_at dksX0_error_2 2 rfl rfl)
theorem dX0_error_50 : decode cX0_error 50 = .ok (.getfield 74, 3) := dk_180 0 74 (dk_at dksX0_error_2 3 rfl rfl)
theorem dX0_error_53 : decode cX0_error 53 = .ok (.getfield 223, 3) := dk_180 0 223 (dk_at dksX0_error_2 6 rfl rfl)
theorem dX0_error_56 : decode cX0_error 56 = .ok (.bipush 8, 2) := dk_16 8 (dk_at dksX0_error_2 9 rfl rfl)
theorem dX0_error_58 : decode cX0_error 58 = .ok (.iload_n 1, 1) := dk_27 (dk_at dksX0_error_2 11 rfl rfl)
theorem dX0_error_59 : decode cX0_error 59 = .ok (.imul, 1) := dk_104 (dk_at dksX0_error_2 12 rfl rfl)
theorem dX0_error_60 : decode cX0_error 60 = .ok (.iload_n 2, 1) := dk_28 (dk_at dksX0_error_2 13 rfl rfl)
theorem dX0_error_61 : decode cX0_error 61 = .ok (.iadd, 1) := dk_96 (dk_at dksX0_error_2 14 rfl rfl)
theorem dX0_error_62 : decode cX0_error 62 = .ok (.iload_n 3, 1) := dk_29 (dk_at dksX0_error_2 15 rfl rfl)
theorem dX0_error_63 : decode cX0_error 63 = .ok (.iastore, 1) := dk_79 (dk_at dksX0_error_2 16 rfl rfl)
theorem dX0_error_64 : decode cX0_error 64 = .ok (.iload 4, 2) := dk_21 4 (dk_at dksX0_error_2 17 rfl rfl)
theorem dX0_error_66 : decode cX0_error 66 = .ok (.bipush 20, 2) := dk_16 20 (dk_at dksX0_error_2 19 rfl rfl)
theorem dX0_error_68 : decode cX0_error 68 = .ok (.iadd, 1) := dk_96 (dk_at dksX0_error_2 21 rfl rfl)
theorem dX0_error_69 : decode cX0_error 69 = .ok (.ireturn, 1) := dk_172 (dk_at dksX0_error_2 22 rfl rfl)
abbrev cX0_liar : ByteArray := prog_1_method_31_code
def yX0_liar : MethodName := ⟨RX0, "liar", "(IZ)I"⟩
def dkwX0_liar_1 : List UInt8 := [84, 42, 180, 0, 74, 42, 180, 0, 74, 180, 0, 78, 182, 0, 105, 184, 0, 97, 172]
abbrev dktX0_liar_1 : List UInt8 := dkwX0_liar_1 ++ []
def dkwX0_liar_0 : List UInt8 := [42, 27, 182, 0, 194, 154, 0, 6, 18, 197, 172, 42, 182, 1, 7, 42, 180, 0, 74, 180, 0, 78, 27, 28]
abbrev dktX0_liar_0 : List UInt8 := dkwX0_liar_0 ++ dktX0_liar_1
theorem dksX0_liar_0 : cX0_liar.data.toList.drop 0 = dktX0_liar_0 := by decide +kernel
theorem dksX0_liar_1 : cX0_liar.data.toList.drop 24 = dktX0_liar_1 := dk_seg dksX0_liar_0 24 rfl rfl
theorem dX0_liar_0 : decode cX0_liar 0 = .ok (.aload_n 0, 1) := dk_42 (dk_at dksX0_liar_0 0 rfl rfl)
theorem dX0_liar_1 : decode cX0_liar 1 = .ok (.iload_n 1, 1) := dk_27 (dk_at dksX0_liar_0 1 rfl rfl)
theorem dX0_liar_2 : decode cX0_liar 2 = .ok (.invokevirtual 194, 3) := dk_182 0 194 (dk_at dksX0_liar_0 2 rfl rfl)
theorem dX0_liar_5 : decode cX0_liar 5 = .ok (.ifCond .ne 6, 3) := dk_154 0 6 (dk_at dksX0_liar_0 5 rfl rfl)
theorem dX0_liar_8 : decode cX0_liar 8 = .ok (.ldc 197, 2) := dk_18 197 (dk_at dksX0_liar_0 8 rfl rfl)
theorem dX0_liar_10 : decode cX0_liar 10 = .ok (.ireturn, 1) := dk_172 (dk_at dksX0_liar_0 10 rfl rfl)
theorem dX0_liar_11 : decode cX0_liar 11 = .ok (.aload_n 0, 1) := dk_42 (dk_at dksX0_liar_0 11 rfl rfl)
theorem dX0_liar_12 : decode cX0_liar 12 = .ok (.invokevirtual 263, 3) := dk_182 1 7 (dk_at dksX0_liar_0 12 rfl rfl)
theorem dX0_liar_15 : decode cX0_liar 15 = .ok (.aload_n 0, 1) := dk_42 (dk_at dksX0_liar_0 15 rfl rfl)
theorem dX0_liar_16 : decode cX0_liar 16 = .ok (.getfield 74, 3) := dk_180 0 74 (dk_at dksX0_liar_0 16 rfl rfl)
theorem dX0_liar_19 : decode cX0_liar 19 = .ok (.getfield 78, 3) := dk_180 0 78 (dk_at dksX0_liar_0 19 rfl rfl)
theorem dX0_liar_22 : decode cX0_liar 22 = .ok (.iload_n 1, 1) := dk_27 (dk_at dksX0_liar_0 22 rfl rfl)
theorem dX0_liar_23 : decode cX0_liar 23 = .ok (.iload_n 2, 1) := dk_28 (dk_at dksX0_liar_0 23 rfl rfl)
theorem dX0_liar_24 : decode cX0_liar 24 = .ok (.bastore, 1) := dk_84 (dk_at dksX0_liar_1 0 rfl rfl)
theorem dX0_liar_25 : decode cX0_liar 25 = .ok (.aload_n 0, 1) := dk_42 (dk_at dksX0_liar_1 1 rfl rfl)
theorem dX0_liar_26 : decode cX0_liar 26 = .ok (.getfield 74, 3) := dk_180 0 74 (dk_at dksX0_liar_1 2 rfl rfl)
theorem dX0_liar_29 : decode cX0_liar 29 = .ok (.aload_n 0, 1) := dk_42 (dk_at dksX0_liar_1 5 rfl rfl)
theorem dX0_liar_30 : decode cX0_liar 30 = .ok (.getfield 74, 3) := dk_180 0 74 (dk_at dksX0_liar_1 6 rfl rfl)
theorem dX0_liar_33 : decode cX0_liar 33 = .ok (.getfield 78, 3) := dk_180 0 78 (dk_at dksX0_liar_1 9 rfl rfl)
theorem dX0_liar_36 : decode cX0_liar 36 = .ok (.invokevirtual 105, 3) := dk_182 0 105 (dk_at dksX0_liar_1 12 rfl rfl)
theorem dX0_liar_39 : decode cX0_liar 39 = .ok (.invokestatic 97, 3) := dk_184 0 97 (dk_at dksX0_liar_1 15 rfl rfl)
theorem dX0_liar_42 : decode cX0_liar 42 = .ok (.ireturn, 1) := dk_172 (dk_at dksX0_liar_1 18 rfl rfl)
abbrev cX0_stand : ByteArray := prog_1_method_32_code
def yX0_stand : MethodName := ⟨RX0, "stand", "(I)I"⟩
def dkwX0_stand_2 : List UInt8 := [180, 0, 74, 180, 0, 82, 182, 0, 105, 184, 0, 97, 172]
abbrev dktX0_stand_2 : List UInt8 := dkwX0_stand_2 ++ []
def dkwX0_stand_1 : List UInt8 := [19, 1, 22, 172, 42, 182, 1, 7, 42, 180, 0, 74, 180, 0, 82, 27, 4, 84, 42, 180, 0, 74, 42]
abbrev dktX0_stand_1 : List UInt8 := dkwX0_stand_1 ++ dktX0_stand_2
def dkwX0_stand_0 : List UInt8 := [42, 27, 182, 0, 194, 154, 0, 6, 18, 197, 172, 42, 180, 0, 74, 180, 0, 82, 27, 51, 153, 0, 7]
abbrev dktX0_stand_0 : List UInt8 := dkwX0_stand_0 ++ dktX0_stand_1
theorem dksX0_stand_0 : cX0_stand.data.toList.drop 0 = dktX0_stand_0 := by decide +kernel
theorem dksX0_stand_1 : cX0_stand.data.toList.drop 23 = dktX0_stand_1 := dk_seg dksX0_stand_0 23 rfl rfl
theorem dksX0_stand_2 : cX0_stand.data.toList.drop 46 = dktX0_stand_2 := dk_seg dksX0_stand_1 23 rfl rfl
theorem dX0_stand_0 : decode cX0_stand 0 = .ok (.aload_n 0, 1) := dk_42 (dk_at dksX0_stand_0 0 rfl rfl)
theorem dX0_stand_1 : decode cX0_stand 1 = .ok (.iload_n 1, 1) := dk_27 (dk_at dksX0_stand_0 1 rfl rfl)
theorem dX0_stand_2 : decode cX0_stand 2 = .ok (.invokevirtual 194, 3) := dk_182 0 194 (dk_at dksX0_stand_0 2 rfl rfl)
theorem dX0_stand_5 : decode cX0_stand 5 = .ok (.ifCond .ne 6, 3) := dk_154 0 6 (dk_at dksX0_stand_0 5 rfl rfl)
theorem dX0_stand_8 : decode cX0_stand 8 = .ok (.ldc 197, 2) := dk_18 197 (dk_at dksX0_stand_0 8 rfl rfl)
theorem dX0_stand_10 : decode cX0_stand 10 = .ok (.ireturn, 1) := dk_172 (dk_at dksX0_stand_0 10 rfl rfl)
theorem dX0_stand_11 : decode cX0_stand 11 = .ok (.aload_n 0, 1) := dk_42 (dk_at dksX0_stand_0 11 rfl rfl)
theorem dX0_stand_12 : decode cX0_stand 12 = .ok (.getfield 74, 3) := dk_180 0 74 (dk_at dksX0_stand_0 12 rfl rfl)
theorem dX0_stand_15 : decode cX0_stand 15 = .ok (.getfield 82, 3) := dk_180 0 82 (dk_at dksX0_stand_0 15 rfl rfl)
theorem dX0_stand_18 : decode cX0_stand 18 = .ok (.iload_n 1, 1) := dk_27 (dk_at dksX0_stand_0 18 rfl rfl)
theorem dX0_stand_19 : decode cX0_stand 19 = .ok (.baload, 1) := dk_51 (dk_at dksX0_stand_0 19 rfl rfl)
theorem dX0_stand_20 : decode cX0_stand 20 = .ok (.ifCond .eq 7, 3) := dk_153 0 7 (dk_at dksX0_stand_0 20 rfl rfl)
theorem dX0_stand_23 : decode cX0_stand 23 = .ok (.ldc_w 278, 3) := dk_19 1 22 (dk_at dksX0_stand_1 0 rfl rfl)
theorem dX0_stand_26 : decode cX0_stand 26 = .ok (.ireturn, 1) := dk_172 (dk_at dksX0_stand_1 3 rfl rfl)
theorem dX0_stand_27 : decode cX0_stand 27 = .ok (.aload_n 0, 1) := dk_42 (dk_at dksX0_stand_1 4 rfl rfl)
theorem dX0_stand_28 : decode cX0_stand 28 = .ok (.invokevirtual 263, 3) := dk_182 1 7 (dk_at dksX0_stand_1 5 rfl rfl)
theorem dX0_stand_31 : decode cX0_stand 31 = .ok (.aload_n 0, 1) := dk_42 (dk_at dksX0_stand_1 8 rfl rfl)
theorem dX0_stand_32 : decode cX0_stand 32 = .ok (.getfield 74, 3) := dk_180 0 74 (dk_at dksX0_stand_1 9 rfl rfl)
theorem dX0_stand_35 : decode cX0_stand 35 = .ok (.getfield 82, 3) := dk_180 0 82 (dk_at dksX0_stand_1 12 rfl rfl)
theorem dX0_stand_38 : decode cX0_stand 38 = .ok (.iload_n 1, 1) := dk_27 (dk_at dksX0_stand_1 15 rfl rfl)
theorem dX0_stand_39 : decode cX0_stand 39 = .ok (.iconst 1, 1) := dk_4 (dk_at dksX0_stand_1 16 rfl rfl)
theorem dX0_stand_40 : decode cX0_stand 40 = .ok (.bastore, 1) := dk_84 (dk_at dksX0_stand_1 17 rfl rfl)
theorem dX0_stand_41 : decode cX0_stand 41 = .ok (.aload_n 0, 1) := dk_42 (dk_at dksX0_stand_1 18 rfl rfl)
theorem dX0_stand_42 : decode cX0_stand 42 = .ok (.getfield 74, 3) := dk_180 0 74 (dk_at dksX0_stand_1 19 rfl rfl)
theorem dX0_stand_45 : decode cX0_stand 45 = .ok (.aload_n 0, 1) := dk_42 (dk_at dksX0_stand_1 22 rfl rfl)
theorem dX0_stand_46 : decode cX0_stand 46 = .ok (.getfield 74, 3) := dk_180 0 74 (dk_at dksX0_stand_2 0 rfl rfl)
theorem dX0_stand_49 : decode cX0_stand 49 = .ok (.getfield 82, 3) := dk_180 0 82 (dk_at dksX0_stand_2 3 rfl rfl)
theorem dX0_stand_52 : decode cX0_stand 52 = .ok (.invokevirtual 105, 3) := dk_182 0 105 (dk_at dksX0_stand_2 6 rfl rfl)
theorem dX0_stand_55 : decode cX0_stand 55 = .ok (.invokestatic 97, 3) := dk_184 0 97 (dk_at dksX0_stand_2 9 rfl rfl)
theorem dX0_stand_58 : decode cX0_stand 58 = .ok (.ireturn, 1) := dk_172 (dk_at dksX0_stand_2 12 rfl rfl)
abbrev cX0_join : ByteArray := prog_1_method_34_code
def yX0_join : MethodName := ⟨RX0, "join", "(I)I"⟩
def dkwX0_join_4 : List UInt8 := [19, 1, 22, 167, 0, 4, 2, 172]
abbrev dktX0_join_4 : List UInt8 := dkwX0_join_4 ++ []
def dkwX0_join_3 : List UInt8 := [180, 0, 74, 182, 1, 30, 181, 1, 33, 28, 172, 77, 44, 182, 1, 36, 193, 0, 11, 153, 0, 9]
abbrev dktX0_join_3 : List UInt8 := dkwX0_join_3 ++ dktX0_join_4
def dkwX0_join_2 : List UInt8 := [42, 180, 0, 74, 180, 0, 61, 27, 3, 79, 42, 180, 0, 74, 180, 0, 82, 27, 3, 84, 42, 42]
abbrev dktX0_join_2 : List UInt8 := dkwX0_join_2 ++ dktX0_join_3
def dkwX0_join_1 : List UInt8 := [19, 1, 22, 172, 42, 27, 182, 1, 27, 61, 42, 182, 1, 7, 42, 180, 0, 74, 180, 0, 58, 27, 28, 79]
abbrev dktX0_join_1 : List UInt8 := dkwX0_join_1 ++ dktX0_join_2
def dkwX0_join_0 : List UInt8 := [42, 27, 182, 0, 194, 154, 0, 6, 18, 197, 172, 42, 180, 0, 74, 180, 0, 82, 27, 51, 154, 0, 7]
abbrev dktX0_join_0 : List UInt8 := dkwX0_join_0 ++ dktX0_join_1
theorem dksX0_join_0 : cX0_join.data.toList.drop 0 = dktX0_join_0 := by decide +kernel
theorem dksX0_join_1 : cX0_join.data.toList.drop 23 = dktX0_join_1 := dk_seg dksX0_join_0 23 rfl rfl
theorem dksX0_join_2 : cX0_join.data.toList.drop 47 = dktX0_join_2 := dk_seg dksX0_join_1 24 rfl rfl
theorem dksX0_join_3 : cX0_join.data.toList.drop 69 = dktX0_join_3 := dk_seg dksX0_join_2 22 rfl rfl
theorem dksX0_join_4 : cX0_join.data.toList.drop 91 = dktX0_join_4 := dk_seg dksX0_join_3 22 rfl rfl
theorem dX0_join_0 : decode cX0_join 0 = .ok (.aload_n 0, 1) := dk_42 (dk_at dksX0_join_0 0 rfl rfl)
theorem dX0_join_1 : decode cX0_join 1 = .ok (.iload_n 1, 1) := dk_27 (dk_at dksX0_join_0 1 rfl rfl)
theorem dX0_join_2 : decode cX0_join 2 = .ok (.invokevirtual 194, 3) := dk_182 0 194 (dk_at dksX0_join_0 2 rfl rfl)
theorem dX0_join_5 : decode cX0_join 5 = .ok (.ifCond .ne 6, 3) := dk_154 0 6 (dk_at dksX0_join_0 5 rfl rfl)
theorem dX0_join_8 : decode cX0_join 8 = .ok (.ldc 197, 2) := dk_18 197 (dk_at dksX0_join_0 8 rfl rfl)
theorem dX0_join_10 : decode cX0_join 10 = .ok (.ireturn, 1) := dk_172 (dk_at dksX0_join_0 10 rfl rfl)
theorem dX0_join_11 : decode cX0_join 11 = .ok (.aload_n 0, 1) := dk_42 (dk_at dksX0_join_0 11 rfl rfl)
theorem dX0_join_12 : decode cX0_join 12 = .ok (.getfield 74, 3) := dk_180 0 74 (dk_at dksX0_join_0 12 rfl rfl)
theorem dX0_join_15 : decode cX0_join 15 = .ok (.getfield 82, 3) := dk_180 0 82 (dk_at dksX0_join_0 15 rfl rfl)
theorem dX0_join_18 : decode cX0_join 18 = .ok (.iload_n 1, 1) := dk_27 (dk_at dksX0_join_0 18 rfl rfl)
theorem dX0_join_19 : decode cX0_join 19 = .ok (.baload, 1) := dk_51 (dk_at dksX0_join_0 19 rfl rfl)
theorem dX0_join_20 : decode cX0_join 20 = .ok (.ifCond .ne 7, 3) := dk_154 0 7 (dk_at dksX0_join_0 20 rfl rfl)
theorem dX0_join_23 : decode cX0_join 23 = .ok (.ldc_w 278, 3) := dk_19 1 22 (dk_at dksX0_join_1 0 rfl rfl)
theorem dX0_join_26 : decode cX0_join 26 = .ok (.ireturn, 1) := dk_172 (dk_at dksX0_join_1 3 rfl rfl)
theorem dX0_join_27 : decode cX0_join 27 = .ok (.aload_n 0, 1) := dk_42 (dk_at dksX0_join_1 4 rfl rfl)
theorem dX0_join_28 : decode cX0_join 28 = .ok (.iload_n 1, 1) := dk_27 (dk_at dksX0_join_1 5 rfl rfl)
theorem dX0_join_29 : decode cX0_join 29 = .ok (.invokevirtual 283, 3) := dk_182 1 27 (dk_at dksX0_join_1 6 rfl rfl)
theorem dX0_join_32 : decode cX0_join 32 = .ok (.istore_n 2, 1) := dk_61 (dk_at dksX0_join_1 9 rfl rfl)
theorem dX0_join_33 : decode cX0_join 33 = .ok (.aload_n 0, 1) := dk_42 (dk_at dksX0_join_1 10 rfl rfl)
theorem dX0_join_34 : decode cX0_join 34 = .ok (.invokevirtual 263, 3) := dk_182 1 7 (dk_at dksX0_join_1 11 rfl rfl)
theorem dX0_join_37 : decode cX0_join 37 = .ok (.aload_n 0, 1) := dk_42 (dk_at dksX0_join_1 14 rfl rfl)
theorem dX0_join_38 : decode cX0_join 38 = .ok (.getfield 74, 3) := dk_180 0 74 (dk_at dksX0_join_1 15 rfl rfl)
theorem dX0_join_41 : decode cX0_join 41 = .ok (.getfield 58, 3) := dk_180 0 58 (dk_at dksX0_join_1 18 rfl rfl)
theorem dX0_join_44 : decode cX0_join 44 = .ok (.iload_n 1, 1) := dk_27 (dk_at dksX0_join_1 21 rfl rfl)
theorem dX0_join_45 : decode cX0_join 45 = .ok (.iload_n 2, 1) := dk_28 (dk_at dksX0_join_1 22 rfl rfl)
theorem dX0_join_46 : decode cX0_join 46 = .ok (.iastore, 1) := dk_79 (dk_at dksX0_join_1 23 rfl rfl)
theorem dX0_join_47 : decode cX0_join 47 = .ok (.aload_n 0, 1) := dk_42 (dk_at dksX0_join_2 0 rfl rfl)
theorem dX0_join_48 : decode cX0_join 48 = .ok (.getfield 74, 3) := dk_180 0 74 (dk_at dksX0_join_2 1 rfl rfl)
theorem dX0_join_51 : decode cX0_join 51 = .ok (.getfield 61, 3) := dk_180 0 61 (dk_at dksX0_join_2 4 rfl rfl)
theorem dX0_join_54 : decode cX0_join 54 = .ok (.iload_n 1, 1) := dk_27 (dk_at dksX0_join_2 7 rfl rfl)
theorem dX0_join_55 : decode cX0_join 55 = .ok (.iconst 0, 1) := dk_3 (dk_at dksX0_join_2 8 rfl rfl)
theorem dX0_join_56 : decode cX0_join 56 = .ok (.iastore, 1) := dk_79 (dk_at dksX0_join_2 9 rfl rfl)
theorem dX0_join_57 : decode cX0_join 57 = .ok (.aload_n 0, 1) := dk_42 (dk_at dksX0_join_2 10 rfl rfl)
theorem dX0_join_58 : decode cX0_join 58 = .ok (.getfield 74, 3) := dk_180 0 74 (dk_at dksX0_join_2 11 rfl rfl)
theorem dX0_join_61 : decode cX0_join 61 = .ok (.getfield 82, 3) := dk_180 0 82 (dk_at dksX0_join_2 14 rfl rfl)
theorem dX0_join_64 : decode cX0_join 64 = .ok (.iload_n 1, 1) := dk_27 (dk_at dksX0_join_2 17 rfl rfl)
theorem dX0_join_65 : decode cX0_join 65 = .ok (.iconst 0, 1) := dk_3 (dk_at dksX0_join_2 18 rfl rfl)
theorem dX0_join_66 : decode cX0_join 66 = .ok (.bastore, 1) := dk_84 (dk_at dksX0_join_2 19 rfl rfl)
theorem dX0_join_67 : decode cX0_join 67 = .ok (.aload_n 0, 1) := dk_42 (dk_at dksX0_join_2 20 rfl rfl)
theorem dX0_join_68 : decode cX0_join 68 = .ok (.aload_n 0, 1) := dk_42 (dk_at dksX0_join_2 21 rfl rfl)
theorem dX0_join_69 : decode cX0_join 69 = .ok (.getfield 74, 3) := dk_180 0 74 (dk_at dksX0_join_3 0 rfl rfl)
theorem dX0_join_72 : decode cX0_join 72 = .ok (.invokevirtual 286, 3) := dk_182 1 30 (dk_at dksX0_join_3 3 rfl rfl)
theorem dX0_join_75 : decode cX0_join 75 = .ok (.putfield 289, 3) := dk_181 1 33 (dk_at dksX0_join_3 6 rfl rfl)
theorem dX0_join_78 : decode cX0_join 78 = .ok (.iload_n 2, 1) := dk_28 (dk_at dksX0_join_3 9 rfl rfl)
theorem dX0_join_79 : decode cX0_join 79 = .ok (.ireturn, 1) := dk_172 (dk_at dksX0_join_3 10 rfl rfl)
theorem dX0_join_80 : decode cX0_join 80 = .ok (.astore_n 2, 1) := dk_77 (dk_at dksX0_join_3 11 rfl rfl)
theorem dX0_join_81 : decode cX0_join 81 = .ok (.aload_n 2, 1) := dk_44 (dk_at dksX0_join_3 12 rfl rfl)
theorem dX0_join_82 : decode cX0_join 82 = .ok (.invokevirtual 292, 3) := dk_182 1 36 (dk_at dksX0_join_3 13 rfl rfl)
theorem dX0_join_85 : decode cX0_join 85 = .ok (.instanceof 11, 3) := dk_193 0 11 (dk_at dksX0_join_3 16 rfl rfl)
theorem dX0_join_88 : decode cX0_join 88 = .ok (.ifCond .eq 9, 3) := dk_153 0 9 (dk_at dksX0_join_3 19 rfl rfl)
theorem dX0_join_91 : decode cX0_join 91 = .ok (.ldc_w 278, 3) := dk_19 1 22 (dk_at dksX0_join_4 0 rfl rfl)
theorem dX0_join_94 : decode cX0_join 94 = .ok (.goto 4, 3) := dk_167 0 4 (dk_at dksX0_join_4 3 rfl rfl)
theorem dX0_join_97 : decode cX0_join 97 = .ok (.iconst (-1), 1) := dk_2 (dk_at dksX0_join_4 6 rfl rfl)
theorem dX0_join_98 : decode cX0_join 98 = .ok (.ireturn, 1) := dk_172 (dk_at dksX0_join_4 7 rfl rfl)
abbrev cX0_joinedAt : ByteArray := prog_1_method_33_code
def yX0_joinedAt : MethodName := ⟨RX0, "joinedAt", "(I)I"⟩
def dkwX0_joinedAt_3 : List UInt8 := [183, 0, 15, 78, 45, 44, 182, 1, 23, 87, 45, 191]
abbrev dktX0_joinedAt_3 : List UInt8 := dkwX0_joinedAt_3 ++ []
def dkwX0_joinedAt_2 : List UInt8 := [132, 2, 1, 167, 255, 212, 42, 42, 180, 0, 74, 180, 0, 40, 182, 0, 43, 172, 77, 187, 0, 13, 89]
abbrev dktX0_joinedAt_2 : List UInt8 := dkwX0_joinedAt_2 ++ dktX0_joinedAt_3
def dkwX0_joinedAt_1 : List UInt8 := [180, 0, 74, 180, 0, 82, 28, 51, 154, 0, 16, 42, 42, 180, 0, 74, 27, 28, 182, 0, 33, 182, 0, 36]
abbrev dktX0_joinedAt_1 : List UInt8 := dkwX0_joinedAt_1 ++ dktX0_joinedAt_2
def dkwX0_joinedAt_0 : List UInt8 := [42, 3, 181, 0, 1, 3, 61, 28, 42, 180, 0, 74, 180, 0, 28, 162, 0, 39, 28, 27, 159, 0, 28, 42]
abbrev dktX0_joinedAt_0 : List UInt8 := dkwX0_joinedAt_0 ++ dktX0_joinedAt_1
theorem dksX0_joinedAt_0 : cX0_joinedAt.data.toList.drop 0 = dktX0_joinedAt_0 := by decide +kernel
theorem dksX0_joinedAt_1 : cX0_joinedAt.data.toList.drop 24 = dktX0_joinedAt_1 := dk_seg dksX0_joinedAt_0 24 rfl rfl
theorem dksX0_joinedAt_2 : cX0_joinedAt.data.toList.drop 48 = dktX0_joinedAt_2 := dk_seg dksX0_joinedAt_1 24 rfl rfl
theorem dksX0_joinedAt_3 : cX0_joinedAt.data.toList.drop 71 = dktX0_joinedAt_3 := dk_seg dksX0_joinedAt_2 23 rfl rfl
theorem dX0_joinedAt_0 : decode cX0_joinedAt 0 = .ok (.aload_n 0, 1) := dk_42 (dk_at dksX0_joinedAt_0 0 rfl rfl)
theorem dX0_joinedAt_1 : decode cX0_joinedAt 1 = .ok (.iconst 0, 1) := dk_3 (dk_at dksX0_joinedAt_0 1 rfl rfl)
theorem dX0_joinedAt_2 : decode cX0_joinedAt 2 = .ok (.putfield 1, 3) := dk_181 0 1 (dk_at dksX0_joinedAt_0 2 rfl rfl)
theorem dX0_joinedAt_5 : decode cX0_joinedAt 5 = .ok (.iconst 0, 1) := dk_3 (dk_at dksX0_joinedAt_0 5 rfl rfl)
theorem dX0_joinedAt_6 : decode cX0_joinedAt 6 = .ok (.istore_n 2, 1) := dk_61 (dk_at dksX0_joinedAt_0 6 rfl rfl)
theorem dX0_joinedAt_7 : decode cX0_joinedAt 7 = .ok (.iload_n 2, 1) := dk_28 (dk_at dksX0_joinedAt_0 7 rfl rfl)
theorem dX0_joinedAt_8 : decode cX0_joinedAt 8 = .ok (.aload_n 0, 1) := dk_42 (dk_at dksX0_joinedAt_0 8 rfl rfl)
theorem dX0_joinedAt_9 : decode cX0_joinedAt 9 = .ok (.getfield 74, 3) := dk_180 0 74 (dk_at dksX0_joinedAt_0 9 rfl rfl)
theorem dX0_joinedAt_12 : decode cX0_joinedAt 12 = .ok (.getfield 28, 3) := dk_180 0 28 (dk_at dksX0_joinedAt_0 12 rfl rfl)
theorem dX0_joinedAt_15 : decode cX0_joinedAt 15 = .ok (.if_icmp .ge 39, 3) := dk_162 0 39 (dk_at dksX0_joinedAt_0 15 rfl rfl)
theorem dX0_joinedAt_18 : decode cX0_joinedAt 18 = .ok (.iload_n 2, 1) := dk_28 (dk_at dksX0_joinedAt_0 18 rfl rfl)
theorem dX0_joinedAt_19 : decode cX0_joinedAt 19 = .ok (.iload_n 1, 1) := dk_27 (dk_at dksX0_joinedAt_0 19 rfl rfl)
theorem dX0_joinedAt_20 : decode cX0_joinedAt 20 = .ok (.if_icmp .eq 28, 3) := dk_159 0 28 (dk_at dksX0_joinedAt_0 20 rfl rfl)
theorem dX0_joinedAt_23 : decode cX0_joinedAt 23 = .ok (.aload_n 0, 1) := dk_42 (dk_at dksX0_joinedAt_0 23 rfl rfl)
theorem dX0_joinedAt_24 : decode cX0_joinedAt 24 = .ok (.getfield 74, 3) := dk_180 0 74 (dk_at dksX0_joinedAt_1 0 rfl rfl)
theorem dX0_joinedAt_27 : decode cX0_joinedAt 27 = .ok (.getfield 82, 3) := dk_180 0 82 (dk_at dksX0_joinedAt_1 3 rfl rfl)
theorem dX0_joinedAt_30 : decode cX0_joinedAt 30 = .ok (.iload_n 2, 1) := dk_28 (dk_at dksX0_joinedAt_1 6 rfl rfl)
theorem dX0_joinedAt_31 : decode cX0_joinedAt 31 = .ok (.baload, 1) := dk_51 (dk_at dksX0_joinedAt_1 7 rfl rfl)
theorem dX0_joinedAt_32 : decode cX0_joinedAt 32 = .ok (.ifCond .ne 16, 3) := dk_154 0 16 (dk_at dksX0_joinedAt_1 8 rfl rfl)
theorem dX0_joinedAt_35 : decode cX0_joinedAt 35 = .ok (.aload_n 0, 1) := dk_42 (dk_at dksX0_joinedAt_1 11 rfl rfl)
theorem dX0_joinedAt_36 : decode cX0_joinedAt 36 = .ok (.aload_n 0, 1) := dk_42 (dk_at dksX0_joinedAt_1 12 rfl rfl)
theorem dX0_joinedAt_37 : decode cX0_joinedAt 37 = .ok (.getfield 74, 3) := dk_180 0 74 (dk_at dksX0_joinedAt_1 13 rfl rfl)
theorem dX0_joinedAt_40 : decode cX0_joinedAt 40 = .ok (.iload_n 1, 1) := dk_27 (dk_at dksX0_joinedAt_1 16 rfl rfl)
theorem dX0_joinedAt_41 : decode cX0_joinedAt 41 = .ok (.iload_n 2, 1) := dk_28 (dk_at dksX0_joinedAt_1 17 rfl rfl)
theorem dX0_joinedAt_42 : decode cX0_joinedAt 42 = .ok (.invokevirtual 33, 3) := dk_182 0 33 (dk_at dksX0_joinedAt_1 18 rfl rfl)
theorem dX0_joinedAt_45 : decode cX0_joinedAt 45 = .ok (.invokevirtual 36, 3) := dk_182 0 36 (dk_at dksX0_joinedAt_1 21 rfl rfl)
theorem dX0_joinedAt_48 : decode cX0_joinedAt 48 = .ok (.iinc 2 1, 3) := dk_132 2 1 (dk_at dksX0_joinedAt_2 0 rfl rfl)
theorem dX0_joinedAt_51 : decode cX0_joinedAt 51 = .ok (.goto (-44), 3) := dk_167 255 212 (dk_at dksX0_joinedAt_2 3 rfl rfl)
theorem dX0_joinedAt_54 : decode cX0_joinedAt 54 = .ok (.aload_n 0, 1) := dk_42 (dk_at dksX0_joinedAt_2 6 rfl rfl)
theorem dX0_joinedAt_55 : decode cX0_joinedAt 55 = .ok (.aload_n 0, 1) := dk_42 (dk_at dksX0_joinedAt_2 7 rfl rfl)
theorem dX0_joinedAt_56 : decode cX0_joinedAt 56 = .ok (.getfield 74, 3) := dk_180 0 74 (dk_at dksX0_joinedAt_2 8 rfl rfl)
theorem dX0_joinedAt_59 : decode cX0_joinedAt 59 = .ok (.getfield 40, 3) := dk_180 0 40 (dk_at dksX0_joinedAt_2 11 rfl rfl)
theorem dX0_joinedAt_62 : decode cX0_joinedAt 62 = .ok (.invokevirtual 43, 3) := dk_182 0 43 (dk_at dksX0_joinedAt_2 14 rfl rfl)
theorem dX0_joinedAt_65 : decode cX0_joinedAt 65 = .ok (.ireturn, 1) := dk_172 (dk_at dksX0_joinedAt_2 17 rfl rfl)
theorem dX0_joinedAt_66 : decode cX0_joinedAt 66 = .ok (.astore_n 2, 1) := dk_77 (dk_at dksX0_joinedAt_2 18 rfl rfl)
theorem dX0_joinedAt_67 : decode cX0_joinedAt 67 = .ok (.new 13, 3) := dk_187 0 13 (dk_at dksX0_joinedAt_2 19 rfl rfl)
theorem dX0_joinedAt_70 : decode cX0_joinedAt 70 = .ok (.dup, 1) := dk_89 (dk_at dksX0_joinedAt_2 22 rfl rfl)
theorem dX0_joinedAt_71 : decode cX0_joinedAt 71 = .ok (.invokespecial 15, 3) := dk_183 0 15 (dk_at dksX0_joinedAt_3 0 rfl rfl)
theorem dX0_joinedAt_74 : decode cX0_joinedAt 74 = .ok (.astore_n 3, 1) := dk_78 (dk_at dksX0_joinedAt_3 3 rfl rfl)
theorem dX0_joinedAt_75 : decode cX0_joinedAt 75 = .ok (.aload_n 3, 1) := dk_45 (dk_at dksX0_joinedAt_3 4 rfl rfl)
theorem dX0_joinedAt_76 : decode cX0_joinedAt 76 = .ok (.aload_n 2, 1) := dk_44 (dk_at dksX0_joinedAt_3 5 rfl rfl)
theorem dX0_joinedAt_77 : decode cX0_joinedAt 77 = .ok (.invokevirtual 279, 3) := dk_182 1 23 (dk_at dksX0_joinedAt_3 6 rfl rfl)
theorem dX0_joinedAt_80 : decode cX0_joinedAt 80 = .ok (.pop, 1) := dk_87 (dk_at dksX0_joinedAt_3 9 rfl rfl)
theorem dX0_joinedAt_81 : decode cX0_joinedAt 81 = .ok (.aload_n 3, 1) := dk_45 (dk_at dksX0_joinedAt_3 10 rfl rfl)
theorem dX0_joinedAt_82 : decode cX0_joinedAt 82 = .ok (.athrow, 1) := dk_191 (dk_at dksX0_joinedAt_3 11 rfl rfl)
abbrev cX0_alarm : ByteArray := prog_1_method_35_code
def yX0_alarm : MethodName := ⟨RX0, "alarm", "(II)I"⟩
def dkwX0_alarm_4 : List UInt8 := [4, 167, 0, 4, 3, 84, 42, 180, 0, 74, 89, 180, 0, 169, 4, 96, 181, 0, 169, 29, 172]
abbrev dktX0_alarm_4 : List UInt8 := dkwX0_alarm_4 ++ []
def dkwX0_alarm_3 : List UInt8 := [29, 28, 79, 42, 180, 0, 74, 180, 0, 172, 29, 42, 180, 0, 74, 180, 0, 58, 27, 46, 28, 161, 0, 7]
abbrev dktX0_alarm_3 : List UInt8 := dkwX0_alarm_3 ++ dktX0_alarm_4
def dkwX0_alarm_2 : List UInt8 := [180, 0, 74, 180, 0, 169, 62, 42, 180, 0, 74, 180, 0, 232, 29, 27, 79, 42, 180, 0, 74, 180, 0, 235]
abbrev dktX0_alarm_2 : List UInt8 := dkwX0_alarm_2 ++ dktX0_alarm_3
def dkwX0_alarm_1 : List UInt8 := [18, 122, 172, 42, 180, 0, 74, 180, 0, 169, 16, 6, 160, 0, 6, 18, 126, 172, 42, 182, 1, 7, 42]
abbrev dktX0_alarm_1 : List UInt8 := dkwX0_alarm_1 ++ dktX0_alarm_2
def dkwX0_alarm_0 : List UInt8 := [42, 27, 182, 0, 194, 154, 0, 6, 18, 197, 172, 28, 133, 9, 20, 1, 40, 184, 0, 118, 154, 0, 6]
abbrev dktX0_alarm_0 : List UInt8 := dkwX0_alarm_0 ++ dktX0_alarm_1
theorem dksX0_alarm_0 : cX0_alarm.data.toList.drop 0 = dktX0_alarm_0 := by decide +kernel
theorem dksX0_alarm_1 : cX0_alarm.data.toList.drop 23 = dktX0_alarm_1 := dk_seg dksX0_alarm_0 23 rfl rfl
theorem dksX0_alarm_2 : cX0_alarm.data.toList.drop 46 = dktX0_alarm_2 := dk_seg dksX0_alarm_1 23 rfl rfl
theorem dksX0_alarm_3 : cX0_alarm.data.toList.drop 70 = dktX0_alarm_3 := dk_seg dksX0_alarm_2 24 rfl rfl
theorem dksX0_alarm_4 : cX0_alarm.data.toList.drop 94 = dktX0_alarm_4 := dk_seg dksX0_alarm_3 24 rfl rfl
theorem dX0_alarm_0 : decode cX0_alarm 0 = .ok (.aload_n 0, 1) := dk_42 (dk_at dksX0_alarm_0 0 rfl rfl)
theorem dX0_alarm_1 : decode cX0_alarm 1 = .ok (.iload_n 1, 1) := dk_27 (dk_at dksX0_alarm_0 1 rfl rfl)
theorem dX0_alarm_2 : decode cX0_alarm 2 = .ok (.invokevirtual 194, 3) := dk_182 0 194 (dk_at dksX0_alarm_0 2 rfl rfl)
theorem dX0_alarm_5 : decode cX0_alarm 5 = .ok (.ifCond .ne 6, 3) := dk_154 0 6 (dk_at dksX0_alarm_0 5 rfl rfl)
theorem dX0_alarm_8 : decode cX0_alarm 8 = .ok (.ldc 197, 2) := dk_18 197 (dk_at dksX0_alarm_0 8 rfl rfl)
theorem dX0_alarm_10 : decode cX0_alarm 10 = .ok (.ireturn, 1) := dk_172 (dk_at dksX0_alarm_0 10 rfl rfl)
theorem dX0_alarm_11 : decode cX0_alarm 11 = .ok (.iload_n 2, 1) := dk_28 (dk_at dksX0_alarm_0 11 rfl rfl)
theorem dX0_alarm_12 : decode cX0_alarm 12 = .ok (.i2l, 1) := dk_133 (dk_at dksX0_alarm_0 12 rfl rfl)
theorem dX0_alarm_13 : decode cX0_alarm 13 = .ok (.lconst 0, 1) := dk_9 (dk_at dksX0_alarm_0 13 rfl rfl)
theorem dX0_alarm_14 : decode cX0_alarm 14 = .ok (.ldc2_w 296, 3) := dk_20 1 40 (dk_at dksX0_alarm_0 14 rfl rfl)
theorem dX0_alarm_17 : decode cX0_alarm 17 = .ok (.invokestatic 118, 3) := dk_184 0 118 (dk_at dksX0_alarm_0 17 rfl rfl)
theorem dX0_alarm_20 : decode cX0_alarm 20 = .ok (.ifCond .ne 6, 3) := dk_154 0 6 (dk_at dksX0_alarm_0 20 rfl rfl)
theorem dX0_alarm_23 : decode cX0_alarm 23 = .ok (.ldc 122, 2) := dk_18 122 (dk_at dksX0_alarm_1 0 rfl rfl)
theorem dX0_alarm_25 : decode cX0_alarm 25 = .ok (.ireturn, 1) := dk_172 (dk_at dksX0_alarm_1 2 rfl rfl)
theorem dX0_alarm_26 : decode cX0_alarm 26 = .ok (.aload_n 0, 1) := dk_42 (dk_at dksX0_alarm_1 3 rfl rfl)
theorem dX0_alarm_27 : decode cX0_alarm 27 = .ok (.getfield 74, 3) := dk_180 0 74 (dk_at dksX0_alarm_1 4 rfl rfl)
theorem dX0_alarm_30 : decode cX0_alarm 30 = .ok (.getfield 169, 3) := dk_180 0 169 (dk_at dksX0_alarm_1 7 rfl rfl)
theorem dX0_alarm_33 : decode cX0_alarm 33 = .ok (.bipush 6, 2) := dk_16 6 (dk_at dksX0_alarm_1 10 rfl rfl)
theorem dX0_alarm_35 : decode cX0_alarm 35 = .ok (.if_icmp .ne 6, 3) := dk_160 0 6 (dk_at dksX0_alarm_1 12 rfl rfl)
theorem dX0_alarm_38 : decode cX0_alarm 38 = .ok (.ldc 126, 2) := dk_18 126 (dk_at dksX0_alarm_1 15 rfl rfl)
theorem dX0_alarm_40 : decode cX0_alarm 40 = .ok (.ireturn, 1) := dk_172 (dk_at dksX0_alarm_1 17 rfl rfl)
theorem dX0_alarm_41 : decode cX0_alarm 41 = .ok (.aload_n 0, 1) := dk_42 (dk_at dksX0_alarm_1 18 rfl rfl)
theorem dX0_alarm_42 : decode cX0_alarm 42 = .ok (.invokevirtual 263, 3) := dk_182 1 7 (dk_at dksX0_alarm_1 19 rfl rfl)
theorem dX0_alarm_45 : decode cX0_alarm 45 = .ok (.aload_n 0, 1) := dk_42 (dk_at dksX0_alarm_1 22 rfl rfl)
theorem dX0_alarm_46 : decode cX0_alarm 46 = .ok (.getfield 74, 3) := dk_180 0 74 (dk_at dksX0_alarm_2 0 rfl rfl)
theorem dX0_alarm_49 : decode cX0_alarm 49 = .ok (.getfield 169, 3) := dk_180 0 169 (dk_at dksX0_alarm_2 3 rfl rfl)
theorem dX0_alarm_52 : decode cX0_alarm 52 = .ok (.istore_n 3, 1) := dk_62 (dk_at dksX0_alarm_2 6 rfl rfl)
theorem dX0_alarm_53 : decode cX0_alarm 53 = .ok (.aload_n 0, 1) := dk_42 (dk_at dksX0_alarm_2 7 rfl rfl)
theorem dX0_alarm_54 : decode cX0_alarm 54 = .ok (.getfield 74, 3) := dk_180 0 74 (dk_at dksX0_alarm_2 8 rfl rfl)
theorem dX0_alarm_57 : decode cX0_alarm 57 = .ok (.getfield 232, 3) := dk_180 0 232 (dk_at dksX0_alarm_2 11 rfl rfl)
theorem dX0_alarm_60 : decode cX0_alarm 60 = .ok (.iload_n 3, 1) := dk_29 (dk_at dksX0_alarm_2 14 rfl rfl)
theorem dX0_alarm_61 : decode cX0_alarm 61 = .ok (.iload_n 1, 1) := dk_27 (dk_at dksX0_alarm_2 15 rfl rfl)
theorem dX0_alarm_62 : decode cX0_alarm 62 = .ok (.iastore, 1) := dk_79 (dk_at dksX0_alarm_2 16 rfl rfl)
theorem dX0_alarm_63 : decode cX0_alarm 63 = .ok (.aload_n 0, 1) := dk_42 (dk_at dksX0_alarm_2 17 rfl rfl)
theorem dX0_alarm_64 : decode cX0_alarm 64 = .ok (.getfield 74, 3) := dk_180 0 74 (dk_at dksX0_alarm_2 18 rfl rfl)
theorem dX0_alarm_67 : decode cX0_alarm 67 = .ok (.getfield 235, 3) := dk_180 0 235 (dk_at dksX0_alarm_2 21 rfl rfl)
theorem dX0_alarm_70 : decode cX0_alarm 70 = .ok (.iload_n 3, 1) := dk_29 (dk_at dksX0_alarm_3 0 rfl rfl)
theorem dX0_alarm_71 : decode cX0_alarm 71 = .ok (.iload_n 2, 1) := dk_28 (dk_at dksX0_alarm_3 1 rfl rfl)
theorem dX0_alarm_72 : decode cX0_alarm 72 = .ok (.iastore, 1) := dk_79 (dk_at dksX0_alarm_3 2 rfl rfl)
theorem dX0_alarm_73 : decode cX0_alarm 73 = .ok (.aload_n 0, 1) := dk_42 (dk_at dksX0_alarm_3 3 rfl rfl)
theorem dX0_alarm_74 : decode cX0_alarm 74 = .ok (.getfield 74, 3) := dk_180 0 74 (dk_at dksX0_alarm_3 4 rfl rfl)
theorem dX0_alarm_77 : decode cX0_alarm 77 = .ok (.getfield 172, 3) := dk_180 0 172 (dk_at dksX0_alarm_3 7 rfl rfl)
theorem dX0_alarm_80 : decode cX0_alarm 80 = .ok (.iload_n 3, 1) := dk_29 (dk_at dksX0_alarm_3 10 rfl rfl)
theorem dX0_alarm_81 : decode cX0_alarm 81 = .ok (.aload_n 0, 1) := dk_42 (dk_at dksX0_alarm_3 11 rfl rfl)
theorem dX0_alarm_82 : decode cX0_alarm 82 = .ok (.getfield 74, 3) := dk_180 0 74 (dk_at dksX0_alarm_3 12 rfl rfl)
theorem dX0_alarm_85 : decode cX0_alarm 85 = .ok (.getfield 58, 3) := dk_180 0 58 (dk_at dksX0_alarm_3 15 rfl rfl)
theorem dX0_alarm_88 : decode cX0_alarm 88 = .ok (.iload_n 1, 1) := dk_27 (dk_at dksX0_alarm_3 18 rfl rfl)
theorem dX0_alarm_89 : decode cX0_alarm 89 = .ok (.iaload, 1) := dk_46 (dk_at dksX0_alarm_3 19 rfl rfl)
theorem dX0_alarm_90 : decode cX0_alarm 90 = .ok (.iload_n 2, 1) := dk_28 (dk_at dksX0_alarm_3 20 rfl rfl)
theorem dX0_alarm_91 : decode cX0_alarm 91 = .ok (.if_icmp .lt 7, 3) := dk_161 0 7 (dk_at dksX0_alarm_3 21 rfl rfl)
theorem dX0_alarm_94 : decode cX0_alarm 94 = .ok (.iconst 1, 1) := dk_4 (dk_at dksX0_alarm_4 0 rfl rfl)
theorem dX0_alarm_95 : decode cX0_alarm 95 = .ok (.goto 4, 3) := dk_167 0 4 (dk_at dksX0_alarm_4 1 rfl rfl)
theorem dX0_alarm_98 : decode cX0_alarm 98 = .ok (.iconst 0, 1) := dk_3 (dk_at dksX0_alarm_4 4 rfl rfl)
theorem dX0_alarm_99 : decode cX0_alarm 99 = .ok (.bastore, 1) := dk_84 (dk_at dksX0_alarm_4 5 rfl rfl)
theorem dX0_alarm_100 : decode cX0_alarm 100 = .ok (.aload_n 0, 1) := dk_42 (dk_at dksX0_alarm_4 6 rfl rfl)
theorem dX0_alarm_101 : decode cX0_alarm 101 = .ok (.getfield 74, 3) := dk_180 0 74 (dk_at dksX0_alarm_4 7 rfl rfl)
theorem dX0_alarm_104 : decode cX0_alarm 104 = .ok (.dup, 1) := dk_89 (dk_at dksX0_alarm_4 10 rfl rfl)
theorem dX0_alarm_105 : decode cX0_alarm 105 = .ok (.getfield 169, 3) := dk_180 0 169 (dk_at dksX0_alarm_4 11 rfl rfl)
theorem dX0_alarm_108 : decode cX0_alarm 108 = .ok (.iconst 1, 1) := dk_4 (dk_at dksX0_alarm_4 14 rfl rfl)
theorem dX0_alarm_109 : decode cX0_alarm 109 = .ok (.iadd, 1) := dk_96 (dk_at dksX0_alarm_4 15 rfl rfl)
theorem dX0_alarm_110 : decode cX0_alarm 110 = .ok (.putfield 169, 3) := dk_181 0 169 (dk_at dksX0_alarm_4 16 rfl rfl)
theorem dX0_alarm_113 : decode cX0_alarm 113 = .ok (.iload_n 3, 1) := dk_29 (dk_at dksX0_alarm_4 19 rfl rfl)
theorem dX0_alarm_114 : decode cX0_alarm 114 = .ok (.ireturn, 1) := dk_172 (dk_at dksX0_alarm_4 20 rfl rfl)
abbrev cX0_drift : ByteArray := prog_1_method_38_code
def yX0_drift : MethodName := ⟨RX0, "drift", "(I)I"⟩
def dkwX0_drift_2 : List UInt8 := [180, 0, 74, 182, 0, 102, 172]
abbrev dktX0_drift_2 : List UInt8 := dkwX0_drift_2 ++ []
def dkwX0_drift_1 : List UInt8 := [180, 0, 74, 180, 0, 28, 158, 0, 17, 42, 182, 1, 7, 42, 182, 1, 56, 132, 2, 1, 167, 255, 230, 42]
abbrev dktX0_drift_1 : List UInt8 := dkwX0_drift_1 ++ dktX0_drift_2
def dkwX0_drift_0 : List UInt8 := [27, 133, 10, 20, 1, 54, 184, 0, 118, 154, 0, 6, 18, 122, 172, 3, 61, 28, 27, 162, 0, 27, 42]
abbrev dktX0_drift_0 : List UInt8 := dkwX0_drift_0 ++ dktX0_drift_1
theorem dksX0_drift_0 : cX0_drift.data.toList.drop 0 = dktX0_drift_0 := by decide +kernel
theorem dksX0_drift_1 : cX0_drift.data.toList.drop 23 = dktX0_drift_1 := dk_seg dksX0_drift_0 23 rfl rfl
theorem dksX0_drift_2 : cX0_drift.data.toList.drop 47 = dktX0_drift_2 := dk_seg dksX0_drift_1 24 rfl rfl
theorem dX0_drift_0 : decode cX0_drift 0 = .ok (.iload_n 1, 1) := dk_27 (dk_at dksX0_drift_0 0 rfl rfl)
theorem dX0_drift_1 : decode cX0_drift 1 = .ok (.i2l, 1) := dk_133 (dk_at dksX0_drift_0 1 rfl rfl)
theorem dX0_drift_2 : decode cX0_drift 2 = .ok (.lconst 1, 1) := dk_10 (dk_at dksX0_drift_0 2 rfl rfl)
theorem dX0_drift_3 : decode cX0_drift 3 = .ok (.ldc2_w 310, 3) := dk_20 1 54 (dk_at dksX0_drift_0 3 rfl rfl)
theorem dX0_drift_6 : decode cX0_drift 6 = .ok (.invokestatic 118, 3) := dk_184 0 118 (dk_at dksX0_drift_0 6 rfl rfl)
theorem dX0_drift_9 : decode cX0_drift 9 = .ok (.ifCond .ne 6, 3) := dk_154 0 6 (dk_at dksX0_drift_0 9 rfl rfl)
theorem dX0_drift_12 : decode cX0_drift 12 = .ok (.ldc 122, 2) := dk_18 122 (dk_at dksX0_drift_0 12 rfl rfl)
theorem dX0_drift_14 : decode cX0_drift 14 = .ok (.ireturn, 1) := dk_172 (dk_at dksX0_drift_0 14 rfl rfl)
theorem dX0_drift_15 : decode cX0_drift 15 = .ok (.iconst 0, 1) := dk_3 (dk_at dksX0_drift_0 15 rfl rfl)
theorem dX0_drift_16 : decode cX0_drift 16 = .ok (.istore_n 2, 1) := dk_61 (dk_at dksX0_drift_0 16 rfl rfl)
theorem dX0_drift_17 : decode cX0_drift 17 = .ok (.iload_n 2, 1) := dk_28 (dk_at dksX0_drift_0 17 rfl rfl)
theorem dX0_drift_18 : decode cX0_drift 18 = .ok (.iload_n 1, 1) := dk_27 (dk_at dksX0_drift_0 18 rfl rfl)
theorem dX0_drift_19 : decode cX0_drift 19 = .ok (.if_icmp .ge 27, 3) := dk_162 0 27 (dk_at dksX0_drift_0 19 rfl rfl)
theorem dX0_drift_22 : decode cX0_drift 22 = .ok (.aload_n 0, 1) := dk_42 (dk_at dksX0_drift_0 22 rfl rfl)
theorem dX0_drift_23 : decode cX0_drift 23 = .ok (.getfield 74, 3) := dk_180 0 74 (dk_at dksX0_drift_1 0 rfl rfl)
theorem dX0_drift_26 : decode cX0_drift 26 = .ok (.getfield 28, 3) := dk_180 0 28 (dk_at dksX0_drift_1 3 rfl rfl)
theorem dX0_drift_29 : decode cX0_drift 29 = .ok (.ifCond .le 17, 3) := dk_158 0 17 (dk_at dksX0_drift_1 6 rfl rfl)
theorem dX0_drift_32 : decode cX0_drift 32 = .ok (.aload_n 0, 1) := dk_42 (dk_at dksX0_drift_1 9 rfl rfl)
theorem dX0_drift_33 : decode cX0_drift 33 = .ok (.invokevirtual 263, 3) := dk_182 1 7 (dk_at dksX0_drift_1 10 rfl rfl)
theorem dX0_drift_36 : decode cX0_drift 36 = .ok (.aload_n 0, 1) := dk_42 (dk_at dksX0_drift_1 13 rfl rfl)
theorem dX0_drift_37 : decode cX0_drift 37 = .ok (.invokevirtual 312, 3) := dk_182 1 56 (dk_at dksX0_drift_1 14 rfl rfl)
theorem dX0_drift_40 : decode cX0_drift 40 = .ok (.iinc 2 1, 3) := dk_132 2 1 (dk_at dksX0_drift_1 17 rfl rfl)
theorem dX0_drift_43 : decode cX0_drift 43 = .ok (.goto (-26), 3) := dk_167 255 230 (dk_at dksX0_drift_1 20 rfl rfl)
theorem dX0_drift_46 : decode cX0_drift 46 = .ok (.aload_n 0, 1) := dk_42 (dk_at dksX0_drift_1 23 rfl rfl)
theorem dX0_drift_47 : decode cX0_drift 47 = .ok (.getfield 74, 3) := dk_180 0 74 (dk_at dksX0_drift_2 0 rfl rfl)
theorem dX0_drift_50 : decode cX0_drift 50 = .ok (.invokevirtual 102, 3) := dk_182 0 102 (dk_at dksX0_drift_2 3 rfl rfl)
theorem dX0_drift_53 : decode cX0_drift 53 = .ok (.ireturn, 1) := dk_172 (dk_at dksX0_drift_2 6 rfl rfl)
abbrev cX0_chance : ByteArray := prog_1_method_37_code
def yX0_chance : MethodName := ⟨RX0, "chance", "()V"⟩
def dkwX0_chance_4 : List UInt8 := [42, 180, 0, 74, 182, 1, 13, 167, 0, 14, 42, 42, 180, 0, 74, 182, 1, 10, 181, 1, 33, 177]
abbrev dktX0_chance_4 : List UInt8 := dkwX0_chance_4 ++ []
def dkwX0_chance_3 : List UInt8 := [29, 79, 42, 180, 0, 74, 180, 0, 223, 16, 8, 27, 104, 28, 96, 21, 4, 79, 21, 5, 154, 0, 14, 42]
abbrev dktX0_chance_3 : List UInt8 := dkwX0_chance_3 ++ dktX0_chance_4
def dkwX0_chance_2 : List UInt8 := [6, 182, 1, 51, 54, 5, 27, 28, 159, 0, 34, 42, 180, 0, 74, 180, 0, 210, 16, 8, 27, 104, 28, 96]
abbrev dktX0_chance_2 : List UInt8 := dkwX0_chance_2 ++ dktX0_chance_3
def dkwX0_chance_1 : List UInt8 := [42, 17, 7, 209, 182, 1, 51, 17, 3, 232, 100, 62, 42, 16, 41, 182, 1, 51, 16, 20, 100, 54, 4, 42]
abbrev dktX0_chance_1 : List UInt8 := dkwX0_chance_1 ++ dktX0_chance_2
def dkwX0_chance_0 : List UInt8 := [42, 42, 180, 0, 74, 180, 0, 28, 182, 1, 51, 60, 42, 42, 180, 0, 74, 180, 0, 28, 182, 1, 51, 61]
abbrev dktX0_chance_0 : List UInt8 := dkwX0_chance_0 ++ dktX0_chance_1
theorem dksX0_chance_0 : cX0_chance.data.toList.drop 0 = dktX0_chance_0 := by decide +kernel
theorem dksX0_chance_1 : cX0_chance.data.toList.drop 24 = dktX0_chance_1 := dk_seg dksX0_chance_0 24 rfl rfl
theorem dksX0_chance_2 : cX0_chance.data.toList.drop 48 = dktX0_chance_2 := dk_seg dksX0_chance_1 24 rfl rfl
theorem dksX0_chance_3 : cX0_chance.data.toList.drop 72 = dktX0_chance_3 := dk_seg dksX0_chance_2 24 rfl rfl
theorem dksX0_chance_4 : cX0_chance.data.toList.drop 96 = dktX0_chance_4 := dk_seg dksX0_chance_3 24 rfl rfl
theorem dX0_chance_0 : decode cX0_chance 0 = .ok (.aload_n 0, 1) := dk_42 (dk_at dksX0_chance_0 0 rfl rfl)
theorem dX0_chance_1 : decode cX0_chance 1 = .ok (.aload_n 0, 1) := dk_42 (dk_at dksX0_chance_0 1 rfl rfl)
theorem dX0_chance_2 : decode cX0_chance 2 = .ok (.getfield 74, 3) := dk_180 0 74 (dk_at dksX0_chance_0 2 rfl rfl)
theorem dX0_chance_5 : decode cX0_chance 5 = .ok (.getfield 28, 3) := dk_180 0 28 (dk_at dksX0_chance_0 5 rfl rfl)
theorem dX0_chance_8 : decode cX0_chance 8 = .ok (.invokevirtual 307, 3) := dk_182 1 51 (dk_at dksX0_chance_0 8 rfl rfl)
theorem dX0_chance_11 : decode cX0_chance 11 = .ok (.istore_n 1, 1) := dk_60 (dk_at dksX0_chance_0 11 rfl rfl)
theorem dX0_chance_12 : decode cX0_chance 12 = .ok (.aload_n 0, 1) := dk_42 (dk_at dksX0_chance_0 12 rfl rfl)
theorem dX0_chance_13 : decode cX0_chance 13 = .ok (.aload_n 0, 1) := dk_42 (dk_at dksX0_chance_0 13 rfl rfl)
theorem dX0_chance_14 : decode cX0_chance 14 = .ok (.getfield 74, 3) := dk_180 0 74 (dk_at dksX0_chance_0 14 rfl rfl)
theorem dX0_chance_17 : decode cX0_chance 17 = .ok (.getfield 28, 3) := dk_180 0 28 (dk_at dksX0_chance_0 17 rfl rfl)
theorem dX0_chance_20 : decode cX0_chance 20 = .ok (.invokevirtual 307, 3) := dk_182 1 51 (dk_at dksX0_chance_0 20 rfl rfl)
theorem dX0_chance_23 : decode cX0_chance 23 = .ok (.istore_n 2, 1) := dk_61 (dk_at dksX0_chance_0 23 rfl rfl)
theorem dX0_chance_24 : decode cX0_chance 24 = .ok (.aload_n 0, 1) := dk_42 (dk_at dksX0_chance_1 0 rfl rfl)
theorem dX0_chance_25 : decode cX0_chance 25 = .ok (.sipush 2001, 3) := dk_17 7 209 (dk_at dksX0_chance_1 1 rfl rfl)
theorem dX0_chance_28 : decode cX0_chance 28 = .ok (.invokevirtual 307, 3) := dk_182 1 51 (dk_at dksX0_chance_1 4 rfl rfl)
theorem dX0_chance_31 : decode cX0_chance 31 = .ok (.sipush 1000, 3) := dk_17 3 232 (dk_at dksX0_chance_1 7 rfl rfl)
theorem dX0_chance_34 : decode cX0_chance 34 = .ok (.isub, 1) := dk_100 (dk_at dksX0_chance_1 10 rfl rfl)
theorem dX0_chance_35 : decode cX0_chance 35 = .ok (.istore_n 3, 1) := dk_62 (dk_at dksX0_chance_1 11 rfl rfl)
theorem dX0_chance_36 : decode cX0_chance 36 = .ok (.aload_n 0, 1) := dk_42 (dk_at dksX0_chance_1 12 rfl rfl)
theorem dX0_chance_37 : decode cX0_chance 37 = .ok (.bipush 41, 2) := dk_16 41 (dk_at dksX0_chance_1 13 rfl rfl)
theorem dX0_chance_39 : decode cX0_chance 39 = .ok (.invokevirtual 307, 3) := dk_182 1 51 (dk_at dksX0_chance_1 15 rfl rfl)
theorem dX0_chance_42 : decode cX0_chance 42 = .ok (.bipush 20, 2) := dk_16 20 (dk_at dksX0_chance_1 18 rfl rfl)
theorem dX0_chance_44 : decode cX0_chance 44 = .ok (.isub, 1) := dk_100 (dk_at dksX0_chance_1 20 rfl rfl)
theorem dX0_chance_45 : decode cX0_chance 45 = .ok (.istore 4, 2) := dk_54 4 (dk_at dksX0_chance_1 21 rfl rfl)
theorem dX0_chance_47 : decode cX0_chance 47 = .ok (.aload_n 0, 1) := dk_42 (dk_at dksX0_chance_1 23 rfl rfl)
theorem dX0_chance_48 : decode cX0_chance 48 = .ok (.iconst 3, 1) := dk_6 (dk_at dksX0_chance_2 0 rfl rfl)
theorem dX0_chance_49 : decode cX0_chance 49 = .ok (.invokevirtual 307, 3) := dk_182 1 51 (dk_at dksX0_chance_2 1 rfl rfl)
theorem dX0_chance_52 : decode cX0_chance 52 = .ok (.istore 5, 2) := dk_54 5 (dk_at dksX0_chance_2 4 rfl rfl)
theorem dX0_chance_54 : decode cX0_chance 54 = .ok (.iload_n 1, 1) := dk_27 (dk_at dksX0_chance_2 6 rfl rfl)
theorem dX0_chance_55 : decode cX0_chance 55 = .ok (.iload_n 2, 1) := dk_28 (dk_at dksX0_chance_2 7 rfl rfl)
theorem dX0_chance_56 : decode cX0_chance 56 = .ok (.if_icmp .eq 34, 3) := dk_159 0 34 (dk_at dksX0_chance_2 8 rfl rfl)
theorem dX0_chance_59 : decode cX0_chance 59 = .ok (.aload_n 0, 1) := dk_42 (dk_at dksX0_chance_2 11 rfl rfl)
theorem dX0_chance_60 : decode cX0_chance 60 = .ok (.getfield 74, 3) := dk_180 0 74 (dk_at dksX0_chance_2 12 rfl rfl)
theorem dX0_chance_63 : decode cX0_chance 63 = .ok (.getfield 210, 3) := dk_180 0 210 (dk_at dksX0_chance_2 15 rfl rfl)
theorem dX0_chance_66 : decode cX0_chance 66 = .ok (.bipush 8, 2) := dk_16 8 (dk_at dksX0_chance_2 18 rfl rfl)
theorem dX0_chance_68 : decode cX0_chance 68 = .ok (.iload_n 1, 1) := dk_27 (dk_at dksX0_chance_2 20 rfl rfl)
theorem dX0_chance_69 : decode cX0_chance 69 = .ok (.imul, 1) := dk_104 (dk_at dksX0_chance_2 21 rfl rfl)
theorem dX0_chance_70 : decode cX0_chance 70 = .ok (.iload_n 2, 1) := dk_28 (dk_at dksX0_chance_2 22 rfl rfl)
theorem dX0_chance_71 : decode cX0_chance 71 = .ok (.iadd, 1) := dk_96 (dk_at dksX0_chance_2 23 rfl rfl)
theorem dX0_chance_72 : decode cX0_chance 72 = .ok (.iload_n 3, 1) := dk_29 (dk_at dksX0_chance_3 0 rfl rfl)
theorem dX0_chance_73 : decode cX0_chance 73 = .ok (.iastore, 1) := dk_79 (dk_at dksX0_chance_3 1 rfl rfl)
theorem dX0_chance_74 : decode cX0_chance 74 = .ok (.aload_n 0, 1) := dk_42 (dk_at dksX0_chance_3 2 rfl rfl)
theorem dX0_chance_75 : decode cX0_chance 75 = .ok (.getfield 74, 3) := dk_180 0 74 (dk_at dksX0_chance_3 3 rfl rfl)
theorem dX0_chance_78 : decode cX0_chance 78 = .ok (.getfield 223, 3) := dk_180 0 223 (dk_at dksX0_chance_3 6 rfl rfl)
theorem dX0_chance_81 : decode cX0_chance 81 = .ok (.bipush 8, 2) := dk_16 8 (dk_at dksX0_chance_3 9 rfl rfl)
theorem dX0_chance_83 : decode cX0_chance 83 = .ok (.iload_n 1, 1) := dk_27 (dk_at dksX0_chance_3 11 rfl rfl)
theorem dX0_chance_84 : decode cX0_chance 84 = .ok (.imul, 1) := dk_104 (dk_at dksX0_chance_3 12 rfl rfl)
theorem dX0_chance_85 : decode cX0_chance 85 = .ok (.iload_n 2, 1) := dk_28 (dk_at dksX0_chance_3 13 rfl rfl)
theorem dX0_chance_86 : decode cX0_chance 86 = .ok (.iadd, 1) := dk_96 (dk_at dksX0_chance_3 14 rfl rfl)
theorem dX0_chance_87 : decode cX0_chance 87 = .ok (.iload 4, 2) := dk_21 4 (dk_at dksX0_chance_3 15 rfl rfl)
theorem dX0_chance_89 : decode cX0_chance 89 = .ok (.iastore, 1) := dk_79 (dk_at dksX0_chance_3 17 rfl rfl)
theorem dX0_chance_90 : decode cX0_chance 90 = .ok (.iload 5, 2) := dk_21 5 (dk_at dksX0_chance_3 18 rfl rfl)
theorem dX0_chance_92 : decode cX0_chance 92 = .ok (.ifCond .ne 14, 3) := dk_154 0 14 (dk_at dksX0_chance_3 20 rfl rfl)
theorem dX0_chance_95 : decode cX0_chance 95 = .ok (.aload_n 0, 1) := dk_42 (dk_at dksX0_chance_3 23 rfl rfl)
theorem dX0_chance_96 : decode cX0_chance 96 = .ok (.aload_n 0, 1) := dk_42 (dk_at dksX0_chance_4 0 rfl rfl)
theorem dX0_chance_97 : decode cX0_chance 97 = .ok (.getfield 74, 3) := dk_180 0 74 (dk_at dksX0_chance_4 1 rfl rfl)
theorem dX0_chance_100 : decode cX0_chance 100 = .ok (.invokevirtual 269, 3) := dk_182 1 13 (dk_at dksX0_chance_4 4 rfl rfl)
theorem dX0_chance_103 : decode cX0_chance 103 = .ok (.goto 14, 3) := dk_167 0 14 (dk_at dksX0_chance_4 7 rfl rfl)
theorem dX0_chance_106 : decode cX0_chance 106 = .ok (.aload_n 0, 1) := dk_42 (dk_at dksX0_chance_4 10 rfl rfl)
theorem dX0_chance_107 : decode cX0_chance 107 = .ok (.aload_n 0, 1) := dk_42 (dk_at dksX0_chance_4 11 rfl rfl)
theorem dX0_chance_108 : decode cX0_chance 108 = .ok (.getfield 74, 3) := dk_180 0 74 (dk_at dksX0_chance_4 12 rfl rfl)
theorem dX0_chance_111 : decode cX0_chance 111 = .ok (.invokevirtual 266, 3) := dk_182 1 10 (dk_at dksX0_chance_4 15 rfl rfl)
theorem dX0_chance_114 : decode cX0_chance 114 = .ok (.putfield 289, 3) := dk_181 1 33 (dk_at dksX0_chance_4 18 rfl rfl)
theorem dX0_chance_117 : decode cX0_chance 117 = .ok (.return_, 1) := dk_177 (dk_at dksX0_chance_4 21 rfl rfl)
abbrev cX0_draw : ByteArray := prog_1_method_36_code
def yX0_draw : MethodName := ⟨RX0, "draw", "(I)I"⟩
def dkwX0_draw_1 : List UInt8 := [180, 1, 42, 16, 16, 124, 27, 112, 172]
abbrev dktX0_draw_1 : List UInt8 := dkwX0_draw_1 ++ []
def dkwX0_draw_0 : List UInt8 := [42, 42, 180, 1, 42, 133, 20, 1, 45, 105, 20, 1, 47, 97, 20, 1, 49, 127, 136, 181, 1, 42, 42]
abbrev dktX0_draw_0 : List UInt8 := dkwX0_draw_0 ++ dktX0_draw_1
theorem dksX0_draw_0 : cX0_draw.data.toList.drop 0 = dktX0_draw_0 := by decide +kernel
theorem dksX0_draw_1 : cX0_draw.data.toList.drop 23 = dktX0_draw_1 := dk_seg dksX0_draw_0 23 rfl rfl
theorem dX0_draw_0 : decode cX0_draw 0 = .ok (.aload_n 0, 1) := dk_42 (dk_at dksX0_draw_0 0 rfl rfl)
theorem dX0_draw_1 : decode cX0_draw 1 = .ok (.aload_n 0, 1) := dk_42 (dk_at dksX0_draw_0 1 rfl rfl)
theorem dX0_draw_2 : decode cX0_draw 2 = .ok (.getfield 298, 3) := dk_180 1 42 (dk_at dksX0_draw_0 2 rfl rfl)
theorem dX0_draw_5 : decode cX0_draw 5 = .ok (.i2l, 1) := dk_133 (dk_at dksX0_draw_0 5 rfl rfl)
theorem dX0_draw_6 : decode cX0_draw 6 = .ok (.ldc2_w 301, 3) := dk_20 1 45 (dk_at dksX0_draw_0 6 rfl rfl)
theorem dX0_draw_9 : decode cX0_draw 9 = .ok (.lmul, 1) := dk_105 (dk_at dksX0_draw_0 9 rfl rfl)
theorem dX0_draw_10 : decode cX0_draw 10 = .ok (.ldc2_w 303, 3) := dk_20 1 47 (dk_at dksX0_draw_0 10 rfl rfl)
theorem dX0_draw_13 : decode cX0_draw 13 = .ok (.ladd, 1) := dk_97 (dk_at dksX0_draw_0 13 rfl rfl)
theorem dX0_draw_14 : decode cX0_draw 14 = .ok (.ldc2_w 305, 3) := dk_20 1 49 (dk_at dksX0_draw_0 14 rfl rfl)
theorem dX0_draw_17 : decode cX0_draw 17 = .ok (.land, 1) := dk_127 (dk_at dksX0_draw_0 17 rfl rfl)
theorem dX0_draw_18 : decode cX0_draw 18 = .ok (.l2i, 1) := dk_136 (dk_at dksX0_draw_0 18 rfl rfl)
theorem dX0_draw_19 : decode cX0_draw 19 = .ok (.putfield 298, 3) := dk_181 1 42 (dk_at dksX0_draw_0 19 rfl rfl)
theorem dX0_draw_22 : decode cX0_draw 22 = .ok (.aload_n 0, 1) := dk_42 (dk_at dksX0_draw_0 22 rfl rfl)
theorem dX0_draw_23 : decode cX0_draw 23 = .ok (.getfield 298, 3) := dk_180 1 42 (dk_at dksX0_draw_1 0 rfl rfl)
theorem dX0_draw_26 : decode cX0_draw 26 = .ok (.bipush 16, 2) := dk_16 16 (dk_at dksX0_draw_1 3 rfl rfl)
theorem dX0_draw_28 : decode cX0_draw 28 = .ok (.iushr, 1) := dk_124 (dk_at dksX0_draw_1 5 rfl rfl)
theorem dX0_draw_29 : decode cX0_draw 29 = .ok (.iload_n 1, 1) := dk_27 (dk_at dksX0_draw_1 6 rfl rfl)
theorem dX0_draw_30 : decode cX0_draw 30 = .ok (.irem, 1) := dk_112 (dk_at dksX0_draw_1 7 rfl rfl)
theorem dX0_draw_31 : decode cX0_draw 31 = .ok (.ireturn, 1) := dk_172 (dk_at dksX0_draw_1 8 rfl rfl)
abbrev cX0_undo : ByteArray := prog_1_method_39_code
def yX0_undo : MethodName := ⟨RX0, "undo", "(I)I"⟩
def dkwX0_undo_3 : List UInt8 := [4, 100, 181, 0, 163, 132, 2, 1, 167, 255, 206, 42, 180, 0, 74, 180, 0, 187, 172]
abbrev dktX0_undo_3 : List UInt8 := dkwX0_undo_3 ++ []
def dkwX0_undo_2 : List UInt8 := [182, 0, 145, 42, 42, 180, 1, 2, 16, 16, 96, 4, 100, 16, 16, 112, 181, 1, 2, 42, 89, 180, 0, 163]
abbrev dktX0_undo_2 : List UInt8 := dkwX0_undo_2 ++ dktX0_undo_3
def dkwX0_undo_1 : List UInt8 := [19, 1, 22, 172, 3, 61, 28, 27, 162, 0, 51, 42, 180, 0, 74, 42, 180, 0, 242, 42, 180, 1, 2, 50]
abbrev dktX0_undo_1 : List UInt8 := dkwX0_undo_1 ++ dktX0_undo_2
def dkwX0_undo_0 : List UInt8 := [27, 133, 10, 20, 1, 54, 184, 0, 118, 154, 0, 6, 18, 122, 172, 27, 42, 180, 0, 163, 164, 0, 7]
abbrev dktX0_undo_0 : List UInt8 := dkwX0_undo_0 ++ dktX0_undo_1
theorem dksX0_undo_0 : cX0_undo.data.toList.drop 0 = dktX0_undo_0 := by decide +kernel
theorem dksX0_undo_1 : cX0_undo.data.toList.drop 23 = dktX0_undo_1 := dk_seg dksX0_undo_0 23 rfl rfl
theorem dksX0_undo_2 : cX0_undo.data.toList.drop 47 = dktX0_undo_2 := dk_seg dksX0_undo_1 24 rfl rfl
theorem dksX0_undo_3 : cX0_undo.data.toList.drop 71 = dktX0_undo_3 := dk_seg dksX0_undo_2 24 rfl rfl
theorem dX0_undo_0 : decode cX0_undo 0 = .ok (.iload_n 1, 1) := dk_27 (dk_at dksX0_undo_0 0 rfl rfl)
theorem dX0_undo_1 : decode cX0_undo 1 = .ok (.i2l, 1) := dk_133 (dk_at dksX0_undo_0 1 rfl rfl)
theorem dX0_undo_2 : decode cX0_undo 2 = .ok (.lconst 1, 1) := dk_10 (dk_at dksX0_undo_0 2 rfl rfl)
theorem dX0_undo_3 : decode cX0_undo 3 = .ok (.ldc2_w 310, 3) := dk_20 1 54 (dk_at dksX0_undo_0 3 rfl rfl)
theorem dX0_undo_6 : decode cX0_undo 6 = .ok (.invokestatic 118, 3) := dk_184 0 118 (dk_at dksX0_undo_0 6 rfl rfl)
theorem dX0_undo_9 : decode cX0_undo 9 = .ok (.ifCond .ne 6, 3) := dk_154 0 6 (dk_at dksX0_undo_0 9 rfl rfl)
theorem dX0_undo_12 : decode cX0_undo 12 = .ok (.ldc 122, 2) := dk_18 122 (dk_at dksX0_undo_0 12 rfl rfl)
theorem dX0_undo_14 : decode cX0_undo 14 = .ok (.ireturn, 1) := dk_172 (dk_at dksX0_undo_0 14 rfl rfl)
theorem dX0_undo_15 : decode cX0_undo 15 = .ok (.iload_n 1, 1) := dk_27 (dk_at dksX0_undo_0 15 rfl rfl)
theorem dX0_undo_16 : decode cX0_undo 16 = .ok (.aload_n 0, 1) := dk_42 (dk_at dksX0_undo_0 16 rfl rfl)
theorem dX0_undo_17 : decode cX0_undo 17 = .ok (.getfield 163, 3) := dk_180 0 163 (dk_at dksX0_undo_0 17 rfl rfl)
theorem dX0_undo_20 : decode cX0_undo 20 = .ok (.if_icmp .le 7, 3) := dk_164 0 7 (dk_at dksX0_undo_0 20 rfl rfl)
theorem dX0_undo_23 : decode cX0_undo 23 = .ok (.ldc_w 278, 3) := dk_19 1 22 (dk_at dksX0_undo_1 0 rfl rfl)
theorem dX0_undo_26 : decode cX0_undo 26 = .ok (.ireturn, 1) := dk_172 (dk_at dksX0_undo_1 3 rfl rfl)
theorem dX0_undo_27 : decode cX0_undo 27 = .ok (.iconst 0, 1) := dk_3 (dk_at dksX0_undo_1 4 rfl rfl)
theorem dX0_undo_28 : decode cX0_undo 28 = .ok (.istore_n 2, 1) := dk_61 (dk_at dksX0_undo_1 5 rfl rfl)
theorem dX0_undo_29 : decode cX0_undo 29 = .ok (.iload_n 2, 1) := dk_28 (dk_at dksX0_undo_1 6 rfl rfl)
theorem dX0_undo_30 : decode cX0_undo 30 = .ok (.iload_n 1, 1) := dk_27 (dk_at dksX0_undo_1 7 rfl rfl)
theorem dX0_undo_31 : decode cX0_undo 31 = .ok (.if_icmp .ge 51, 3) := dk_162 0 51 (dk_at dksX0_undo_1 8 rfl rfl)
theorem dX0_undo_34 : decode cX0_undo 34 = .ok (.aload_n 0, 1) := dk_42 (dk_at dksX0_undo_1 11 rfl rfl)
theorem dX0_undo_35 : decode cX0_undo 35 = .ok (.getfield 74, 3) := dk_180 0 74 (dk_at dksX0_undo_1 12 rfl rfl)
theorem dX0_undo_38 : decode cX0_undo 38 = .ok (.aload_n 0, 1) := dk_42 (dk_at dksX0_undo_1 15 rfl rfl)
theorem dX0_undo_39 : decode cX0_undo 39 = .ok (.getfield 242, 3) := dk_180 0 242 (dk_at dksX0_undo_1 16 rfl rfl)
theorem dX0_undo_42 : decode cX0_undo 42 = .ok (.aload_n 0, 1) := dk_42 (dk_at dksX0_undo_1 19 rfl rfl)
theorem dX0_undo_43 : decode cX0_undo 43 = .ok (.getfield 258, 3) := dk_180 1 2 (dk_at dksX0_undo_1 20 rfl rfl)
theorem dX0_undo_46 : decode cX0_undo 46 = .ok (.aaload, 1) := dk_50 (dk_at dksX0_undo_1 23 rfl rfl)
theorem dX0_undo_47 : decode cX0_undo 47 = .ok (.invokevirtual 145, 3) := dk_182 0 145 (dk_at dksX0_undo_2 0 rfl rfl)
theorem dX0_undo_50 : decode cX0_undo 50 = .ok (.aload_n 0, 1) := dk_42 (dk_at dksX0_undo_2 3 rfl rfl)
theorem dX0_undo_51 : decode cX0_undo 51 = .ok (.aload_n 0, 1) := dk_42 (dk_at dksX0_undo_2 4 rfl rfl)
theorem dX0_undo_52 : decode cX0_undo 52 = .ok (.getfield 258, 3) := dk_180 1 2 (dk_at dksX0_undo_2 5 rfl rfl)
theorem dX0_undo_55 : decode cX0_undo 55 = .ok (.bipush 16, 2) := dk_16 16 (dk_at dksX0_undo_2 8 rfl rfl)
theorem dX0_undo_57 : decode cX0_undo 57 = .ok (.iadd, 1) := dk_96 (dk_at dksX0_undo_2 10 rfl rfl)
theorem dX0_undo_58 : decode cX0_undo 58 = .ok (.iconst 1, 1) := dk_4 (dk_at dksX0_undo_2 11 rfl rfl)
theorem dX0_undo_59 : decode cX0_undo 59 = .ok (.isub, 1) := dk_100 (dk_at dksX0_undo_2 12 rfl rfl)
theorem dX0_undo_60 : decode cX0_undo 60 = .ok (.bipush 16, 2) := dk_16 16 (dk_at dksX0_undo_2 13 rfl rfl)
theorem dX0_undo_62 : decode cX0_undo 62 = .ok (.irem, 1) := dk_112 (dk_at dksX0_undo_2 15 rfl rfl)
theorem dX0_undo_63 : decode cX0_undo 63 = .ok (.putfield 258, 3) := dk_181 1 2 (dk_at dksX0_undo_2 16 rfl rfl)
theorem dX0_undo_66 : decode cX0_undo 66 = .ok (.aload_n 0, 1) := dk_42 (dk_at dksX0_undo_2 19 rfl rfl)
theorem dX0_undo_67 : decode cX0_undo 67 = .ok (.dup, 1) := dk_89 (dk_at dksX0_undo_2 20 rfl rfl)
theorem dX0_undo_68 : decode cX0_undo 68 = .ok (.getfield 163, 3) := dk_180 0 163 (dk_at dksX0_undo_2 21 rfl rfl)
theorem dX0_undo_71 : decode cX0_undo 71 = .ok (.iconst 1, 1) := dk_4 (dk_at dksX0_undo_3 0 rfl rfl)
theorem dX0_undo_72 : decode cX0_undo 72 = .ok (.isub, 1) := dk_100 (dk_at dksX0_undo_3 1 rfl rfl)
theorem dX0_undo_73 : decode cX0_undo 73 = .ok (.putfield 163, 3) := dk_181 0 163 (dk_at dksX0_undo_3 2 rfl rfl)
theorem dX0_undo_76 : decode cX0_undo 76 = .ok (.iinc 2 1, 3) := dk_132 2 1 (dk_at dksX0_undo_3 5 rfl rfl)
theorem dX0_undo_79 : decode cX0_undo 79 = .ok (.goto (-50), 3) := dk_167 255 206 (dk_at dksX0_undo_3 8 rfl rfl)
theorem dX0_undo_82 : decode cX0_undo 82 = .ok (.aload_n 0, 1) := dk_42 (dk_at dksX0_undo_3 11 rfl rfl)
theorem dX0_undo_83 : decode cX0_undo 83 = .ok (.getfield 74, 3) := dk_180 0 74 (dk_at dksX0_undo_3 12 rfl rfl)
theorem dX0_undo_86 : decode cX0_undo 86 = .ok (.getfield 187, 3) := dk_180 0 187 (dk_at dksX0_undo_3 15 rfl rfl)
theorem dX0_undo_89 : decode cX0_undo 89 = .ok (.ireturn, 1) := dk_172 (dk_at dksX0_undo_3 18 rfl rfl)
abbrev cX0_behind : ByteArray := prog_1_method_40_code
def yX0_behind : MethodName := ⟨RX0, "behind", "(I)I"⟩
def dkwX0_behind_2 : List UInt8 := [42, 180, 0, 207, 182, 0, 102, 172]
abbrev dktX0_behind_2 : List UInt8 := dkwX0_behind_2 ++ []
def dkwX0_behind_1 : List UInt8 := [182, 0, 145, 3, 61, 28, 27, 162, 0, 17, 42, 42, 180, 0, 207, 182, 1, 13, 132, 2, 1, 167, 255, 240]
abbrev dktX0_behind_1 : List UInt8 := dkwX0_behind_1 ++ dktX0_behind_2
def dkwX0_behind_0 : List UInt8 := [27, 133, 9, 20, 1, 5, 184, 0, 118, 154, 0, 6, 18, 122, 172, 42, 180, 0, 207, 42, 180, 0, 74]
abbrev dktX0_behind_0 : List UInt8 := dkwX0_behind_0 ++ dktX0_behind_1
theorem dksX0_behind_0 : cX0_behind.data.toList.drop 0 = dktX0_behind_0 := by decide +kernel
theorem dksX0_behind_1 : cX0_behind.data.toList.drop 23 = dktX0_behind_1 := dk_seg dksX0_behind_0 23 rfl rfl
theorem dksX0_behind_2 : cX0_behind.data.toList.drop 47 = dktX0_behind_2 := dk_seg dksX0_behind_1 24 rfl rfl
theorem dX0_behind_0 : decode cX0_behind 0 = .ok (.iload_n 1, 1) := dk_27 (dk_at dksX0_behind_0 0 rfl rfl)
theorem dX0_behind_1 : decode cX0_behind 1 = .ok (.i2l, 1) := dk_133 (dk_at dksX0_behind_0 1 rfl rfl)
theorem dX0_behind_2 : decode cX0_behind 2 = .ok (.lconst 0, 1) := dk_9 (dk_at dksX0_behind_0 2 rfl rfl)
theorem dX0_behind_3 : decode cX0_behind 3 = .ok (.ldc2_w 261, 3) := dk_20 1 5 (dk_at dksX0_behind_0 3 rfl rfl)
theorem dX0_behind_6 : decode cX0_behind 6 = .ok (.invokestatic 118, 3) := dk_184 0 118 (dk_at dksX0_behind_0 6 rfl rfl)
theorem dX0_behind_9 : decode cX0_behind 9 = .ok (.ifCond .ne 6, 3) := dk_154 0 6 (dk_at dksX0_behind_0 9 rfl rfl)
theorem dX0_behind_12 : decode cX0_behind 12 = .ok (.ldc 122, 2) := dk_18 122 (dk_at dksX0_behind_0 12 rfl rfl)
theorem dX0_behind_14 : decode cX0_behind 14 = .ok (.ireturn, 1) := dk_172 (dk_at dksX0_behind_0 14 rfl rfl)
theorem dX0_behind_15 : decode cX0_behind 15 = .ok (.aload_n 0, 1) := dk_42 (dk_at dksX0_behind_0 15 rfl rfl)
theorem dX0_behind_16 : decode cX0_behind 16 = .ok (.getfield 207, 3) := dk_180 0 207 (dk_at dksX0_behind_0 16 rfl rfl)
theorem dX0_behind_19 : decode cX0_behind 19 = .ok (.aload_n 0, 1) := dk_42 (dk_at dksX0_behind_0 19 rfl rfl)
theorem dX0_behind_20 : decode cX0_behind 20 = .ok (.getfield 74, 3) := dk_180 0 74 (dk_at dksX0_behind_0 20 rfl rfl)
theorem dX0_behind_23 : decode cX0_behind 23 = .ok (.invokevirtual 145, 3) := dk_182 0 145 (dk_at dksX0_behind_1 0 rfl rfl)
theorem dX0_behind_26 : decode cX0_behind 26 = .ok (.iconst 0, 1) := dk_3 (dk_at dksX0_behind_1 3 rfl rfl)
theorem dX0_behind_27 : decode cX0_behind 27 = .ok (.istore_n 2, 1) := dk_61 (dk_at dksX0_behind_1 4 rfl rfl)
theorem dX0_behind_28 : decode cX0_behind 28 = .ok (.iload_n 2, 1) := dk_28 (dk_at dksX0_behind_1 5 rfl rfl)
theorem dX0_behind_29 : decode cX0_behind 29 = .ok (.iload_n 1, 1) := dk_27 (dk_at dksX0_behind_1 6 rfl rfl)
theorem dX0_behind_30 : decode cX0_behind 30 = .ok (.if_icmp .ge 17, 3) := dk_162 0 17 (dk_at dksX0_behind_1 7 rfl rfl)
theorem dX0_behind_33 : decode cX0_behind 33 = .ok (.aload_n 0, 1) := dk_42 (dk_at dksX0_behind_1 10 rfl rfl)
theorem dX0_behind_34 : decode cX0_behind 34 = .ok (.aload_n 0, 1) := dk_42 (dk_at dksX0_behind_1 11 rfl rfl)
theorem dX0_behind_35 : decode cX0_behind 35 = .ok (.getfield 207, 3) := dk_180 0 207 (dk_at dksX0_behind_1 12 rfl rfl)
theorem dX0_behind_38 : decode cX0_behind 38 = .ok (.invokevirtual 269, 3) := dk_182 1 13 (dk_at dksX0_behind_1 15 rfl rfl)
theorem dX0_behind_41 : decode cX0_behind 41 = .ok (.iinc 2 1, 3) := dk_132 2 1 (dk_at dksX0_behind_1 18 rfl rfl)
theorem dX0_behind_44 : decode cX0_behind 44 = .ok (.goto (-16), 3) := dk_167 255 240 (dk_at dksX0_behind_1 21 rfl rfl)
theorem dX0_behind_47 : decode cX0_behind 47 = .ok (.aload_n 0, 1) := dk_42 (dk_at dksX0_behind_2 0 rfl rfl)
theorem dX0_behind_48 : decode cX0_behind 48 = .ok (.getfield 207, 3) := dk_180 0 207 (dk_at dksX0_behind_2 1 rfl rfl)
theorem dX0_behind_51 : decode cX0_behind 51 = .ok (.invokevirtual 102, 3) := dk_182 0 102 (dk_at dksX0_behind_2 4 rfl rfl)
theorem dX0_behind_54 : decode cX0_behind 54 = .ok (.ireturn, 1) := dk_172 (dk_at dksX0_behind_2 7 rfl rfl)
abbrev cX0_within : ByteArray := prog_1_method_41_code
def yX0_within : MethodName := ⟨RX0, "within", "(I)I"⟩
def dkwX0_within_3 : List UInt8 := [182, 0, 102, 156, 0, 7, 2, 167, 0, 4, 28, 172]
abbrev dktX0_within_3 : List UInt8 := dkwX0_within_3 ++ []
def dkwX0_within_2 : List UInt8 := [180, 0, 207, 182, 1, 13, 132, 2, 1, 167, 255, 228, 28, 16, 20, 163, 0, 13, 42, 180, 0, 207]
abbrev dktX0_within_2 : List UInt8 := dkwX0_within_2 ++ dktX0_within_3
def dkwX0_within_1 : List UInt8 := [182, 0, 145, 3, 61, 28, 16, 20, 163, 0, 28, 42, 180, 0, 207, 182, 0, 102, 27, 164, 0, 17, 42, 42]
abbrev dktX0_within_1 : List UInt8 := dkwX0_within_1 ++ dktX0_within_2
def dkwX0_within_0 : List UInt8 := [27, 133, 9, 20, 1, 18, 184, 0, 118, 154, 0, 6, 18, 122, 172, 42, 180, 0, 207, 42, 180, 0, 74]
abbrev dktX0_within_0 : List UInt8 := dkwX0_within_0 ++ dktX0_within_1
theorem dksX0_within_0 : cX0_within.data.toList.drop 0 = dktX0_within_0 := by decide +kernel
theorem dksX0_within_1 : cX0_within.data.toList.drop 23 = dktX0_within_1 := dk_seg dksX0_within_0 23 rfl rfl
theorem dksX0_within_2 : cX0_within.data.toList.drop 47 = dktX0_within_2 := dk_seg dksX0_within_1 24 rfl rfl
theorem dksX0_within_3 : cX0_within.data.toList.drop 69 = dktX0_within_3 := dk_seg dksX0_within_2 22 rfl rfl
theorem dX0_within_0 : decode cX0_within 0 = .ok (.iload_n 1, 1) := dk_27 (dk_at dksX0_within_0 0 rfl rfl)
theorem dX0_within_1 : decode cX0_within 1 = .ok (.i2l, 1) := dk_133 (dk_at dksX0_within_0 1 rfl rfl)
theorem dX0_within_2 : decode cX0_within 2 = .ok (.lconst 0, 1) := dk_9 (dk_at dksX0_within_0 2 rfl rfl)
theorem dX0_within_3 : decode cX0_within 3 = .ok (.ldc2_w 274, 3) := dk_20 1 18 (dk_at dksX0_within_0 3 rfl rfl)
theorem dX0_within_6 : decode cX0_within 6 = .ok (.invokestatic 118, 3) := dk_184 0 118 (dk_at dksX0_within_0 6 rfl rfl)
theorem dX0_within_9 : decode cX0_within 9 = .ok (.ifCond .ne 6, 3) := dk_154 0 6 (dk_at dksX0_within_0 9 rfl rfl)
theorem dX0_within_12 : decode cX0_within 12 = .ok (.ldc 122, 2) := dk_18 122 (dk_at dksX0_within_0 12 rfl rfl)
theorem dX0_within_14 : decode cX0_within 14 = .ok (.ireturn, 1) := dk_172 (dk_at dksX0_within_0 14 rfl rfl)
theorem dX0_within_15 : decode cX0_within 15 = .ok (.aload_n 0, 1) := dk_42 (dk_at dksX0_within_0 15 rfl rfl)
theorem dX0_within_16 : decode cX0_within 16 = .ok (.getfield 207, 3) := dk_180 0 207 (dk_at dksX0_within_0 16 rfl rfl)
theorem dX0_within_19 : decode cX0_within 19 = .ok (.aload_n 0, 1) := dk_42 (dk_at dksX0_within_0 19 rfl rfl)
theorem dX0_within_20 : decode cX0_within 20 = .ok (.getfield 74, 3) := dk_180 0 74 (dk_at dksX0_within_0 20 rfl rfl)
theorem dX0_within_23 : decode cX0_within 23 = .ok (.invokevirtual 145, 3) := dk_182 0 145 (dk_at dksX0_within_1 0 rfl rfl)
theorem dX0_within_26 : decode cX0_within 26 = .ok (.iconst 0, 1) := dk_3 (dk_at dksX0_within_1 3 rfl rfl)
theorem dX0_within_27 : decode cX0_within 27 = .ok (.istore_n 2, 1) := dk_61 (dk_at dksX0_within_1 4 rfl rfl)
theorem dX0_within_28 : decode cX0_within 28 = .ok (.iload_n 2, 1) := dk_28 (dk_at dksX0_within_1 5 rfl rfl)
theorem dX0_within_29 : decode cX0_within 29 = .ok (.bipush 20, 2) := dk_16 20 (dk_at dksX0_within_1 6 rfl rfl)
theorem dX0_within_31 : decode cX0_within 31 = .ok (.if_icmp .gt 28, 3) := dk_163 0 28 (dk_at dksX0_within_1 8 rfl rfl)
theorem dX0_within_34 : decode cX0_within 34 = .ok (.aload_n 0, 1) := dk_42 (dk_at dksX0_within_1 11 rfl rfl)
theorem dX0_within_35 : decode cX0_within 35 = .ok (.getfield 207, 3) := dk_180 0 207 (dk_at dksX0_within_1 12 rfl rfl)
theorem dX0_within_38 : decode cX0_within 38 = .ok (.invokevirtual 102, 3) := dk_182 0 102 (dk_at dksX0_within_1 15 rfl rfl)
theorem dX0_within_41 : decode cX0_within 41 = .ok (.iload_n 1, 1) := dk_27 (dk_at dksX0_within_1 18 rfl rfl)
theorem dX0_within_42 : decode cX0_within 42 = .ok (.if_icmp .le 17, 3) := dk_164 0 17 (dk_at dksX0_within_1 19 rfl rfl)
theorem dX0_within_45 : decode cX0_within 45 = .ok (.aload_n 0, 1) := dk_42 (dk_at dksX0_within_1 22 rfl rfl)
theorem dX0_within_46 : decode cX0_within 46 = .ok (.aload_n 0, 1) := dk_42 (dk_at dksX0_within_1 23 rfl rfl)
theorem dX0_within_47 : decode cX0_within 47 = .ok (.getfield 207, 3) := dk_180 0 207 (dk_at dksX0_within_2 0 rfl rfl)
theorem dX0_within_50 : decode cX0_within 50 = .ok (.invokevirtual 269, 3) := dk_182 1 13 (dk_at dksX0_within_2 3 rfl rfl)
theorem dX0_within_53 : decode cX0_within 53 = .ok (.iinc 2 1, 3) := dk_132 2 1 (dk_at dksX0_within_2 6 rfl rfl)
theorem dX0_within_56 : decode cX0_within 56 = .ok (.goto (-28), 3) := dk_167 255 228 (dk_at dksX0_within_2 9 rfl rfl)
theorem dX0_within_59 : decode cX0_within 59 = .ok (.iload_n 2, 1) := dk_28 (dk_at dksX0_within_2 12 rfl rfl)
theorem dX0_within_60 : decode cX0_within 60 = .ok (.bipush 20, 2) := dk_16 20 (dk_at dksX0_within_2 13 rfl rfl)
theorem dX0_within_62 : decode cX0_within 62 = .ok (.if_icmp .gt 13, 3) := dk_163 0 13 (dk_at dksX0_within_2 15 rfl rfl)
theorem dX0_within_65 : decode cX0_within 65 = .ok (.aload_n 0, 1) := dk_42 (dk_at dksX0_within_2 18 rfl rfl)
theorem dX0_within_66 : decode cX0_within 66 = .ok (.getfield 207, 3) := dk_180 0 207 (dk_at dksX0_within_2 19 rfl rfl)
theorem dX0_within_69 : decode cX0_within 69 = .ok (.invokevirtual 102, 3) := dk_182 0 102 (dk_at dksX0_within_3 0 rfl rfl)
theorem dX0_within_72 : decode cX0_within 72 = .ok (.ifCond .ge 7, 3) := dk_156 0 7 (dk_at dksX0_within_3 3 rfl rfl)
theorem dX0_within_75 : decode cX0_within 75 = .ok (.iconst (-1), 1) := dk_2 (dk_at dksX0_within_3 6 rfl rfl)
theorem dX0_within_76 : decode cX0_within 76 = .ok (.goto 4, 3) := dk_167 0 4 (dk_at dksX0_within_3 7 rfl rfl)
theorem dX0_within_79 : decode cX0_within 79 = .ok (.iload_n 2, 1) := dk_28 (dk_at dksX0_within_3 10 rfl rfl)
theorem dX0_within_80 : decode cX0_within 80 = .ok (.ireturn, 1) := dk_172 (dk_at dksX0_within_3 11 rfl rfl)
abbrev cX0_write : ByteArray := prog_1_method_42_code
def yX0_write : MethodName := ⟨RX0, "write", "(II)I"⟩
def dkwX0_write_2 : List UInt8 := [4, 96, 181, 0, 160, 42, 180, 0, 160, 172]
abbrev dktX0_write_2 : List UInt8 := dkwX0_write_2 ++ []
def dkwX0_write_1 : List UInt8 := [180, 0, 246, 42, 180, 0, 160, 27, 79, 42, 180, 0, 249, 42, 180, 0, 160, 28, 79, 42, 89, 180, 0, 160]
abbrev dktX0_write_1 : List UInt8 := dkwX0_write_1 ++ dktX0_write_2
def dkwX0_write_0 : List UInt8 := [42, 27, 182, 0, 194, 154, 0, 6, 18, 197, 172, 42, 180, 0, 160, 16, 20, 160, 0, 6, 18, 126, 172, 42]
abbrev dktX0_write_0 : List UInt8 := dkwX0_write_0 ++ dktX0_write_1
theorem dksX0_write_0 : cX0_write.data.toList.drop 0 = dktX0_write_0 := by decide +kernel
theorem dksX0_write_1 : cX0_write.data.toList.drop 24 = dktX0_write_1 := dk_seg dksX0_write_0 24 rfl rfl
theorem dksX0_write_2 : cX0_write.data.toList.drop 48 = dktX0_write_2 := dk_seg dksX0_write_1 24 rfl rfl
theorem dX0_write_0 : decode cX0_write 0 = .ok (.aload_n 0, 1) := dk_42 (dk_at dksX0_write_0 0 rfl rfl)
theorem dX0_write_1 : decode cX0_write 1 = .ok (.iload_n 1, 1) := dk_27 (dk_at dksX0_write_0 1 rfl rfl)
theorem dX0_write_2 : decode cX0_write 2 = .ok (.invokevirtual 194, 3) := dk_182 0 194 (dk_at dksX0_write_0 2 rfl rfl)
theorem dX0_write_5 : decode cX0_write 5 = .ok (.ifCond .ne 6, 3) := dk_154 0 6 (dk_at dksX0_write_0 5 rfl rfl)
theorem dX0_write_8 : decode cX0_write 8 = .ok (.ldc 197, 2) := dk_18 197 (dk_at dksX0_write_0 8 rfl rfl)
theorem dX0_write_10 : decode cX0_write 10 = .ok (.ireturn, 1) := dk_172 (dk_at dksX0_write_0 10 rfl rfl)
theorem dX0_write_11 : decode cX0_write 11 = .ok (.aload_n 0, 1) := dk_42 (dk_at dksX0_write_0 11 rfl rfl)
theorem dX0_write_12 : decode cX0_write 12 = .ok (.getfield 160, 3) := dk_180 0 160 (dk_at dksX0_write_0 12 rfl rfl)
theorem dX0_write_15 : decode cX0_write 15 = .ok (.bipush 20, 2) := dk_16 20 (dk_at dksX0_write_0 15 rfl rfl)
theorem dX0_write_17 : decode cX0_write 17 = .ok (.if_icmp .ne 6, 3) := dk_160 0 6 (dk_at dksX0_write_0 17 rfl rfl)
theorem dX0_write_20 : decode cX0_write 20 = .ok (.ldc 126, 2) := dk_18 126 (dk_at dksX0_write_0 20 rfl rfl)
theorem dX0_write_22 : decode cX0_write 22 = .ok (.ireturn, 1) := dk_172 (dk_at dksX0_write_0 22 rfl rfl)
theorem dX0_write_23 : decode cX0_write 23 = .ok (.aload_n 0, 1) := dk_42 (dk_at dksX0_write_0 23 rfl rfl)
theorem dX0_write_24 : decode cX0_write 24 = .ok (.getfield 246, 3) := dk_180 0 246 (dk_at dksX0_write_1 0 rfl rfl)
theorem dX0_write_27 : decode cX0_write 27 = .ok (.aload_n 0, 1) := dk_42 (dk_at dksX0_write_1 3 rfl rfl)
theorem dX0_write_28 : decode cX0_write 28 = .ok (.getfield 160, 3) := dk_180 0 160 (dk_at dksX0_write_1 4 rfl rfl)
theorem dX0_write_31 : decode cX0_write 31 = .ok (.iload_n 1, 1) := dk_27 (dk_at dksX0_write_1 7 rfl rfl)
theorem dX0_write_32 : decode cX0_write 32 = .ok (.iastore, 1) := dk_79 (dk_at dksX0_write_1 8 rfl rfl)
theorem dX0_write_33 : decode cX0_write 33 = .ok (.aload_n 0, 1) := dk_42 (dk_at dksX0_write_1 9 rfl rfl)
theorem dX0_write_34 : decode cX0_write 34 = .ok (.getfield 249, 3) := dk_180 0 249 (dk_at dksX0_write_1 10 rfl rfl)
theorem dX0_write_37 : decode cX0_write 37 = .ok (.aload_n 0, 1) := dk_42 (dk_at dksX0_write_1 13 rfl rfl)
theorem dX0_write_38 : decode cX0_write 38 = .ok (.getfield 160, 3) := dk_180 0 160 (dk_at dksX0_write_1 14 rfl rfl)
theorem dX0_write_41 : decode cX0_write 41 = .ok (.iload_n 2, 1) := dk_28 (dk_at dksX0_write_1 17 rfl rfl)
theorem dX0_write_42 : decode cX0_write 42 = .ok (.iastore, 1) := dk_79 (dk_at dksX0_write_1 18 rfl rfl)
theorem dX0_write_43 : decode cX0_write 43 = .ok (.aload_n 0, 1) := dk_42 (dk_at dksX0_write_1 19 rfl rfl)
theorem dX0_write_44 : decode cX0_write 44 = .ok (.dup, 1) := dk_89 (dk_at dksX0_write_1 20 rfl rfl)
theorem dX0_write_45 : decode cX0_write 45 = .ok (.getfield 160, 3) := dk_180 0 160 (dk_at dksX0_write_1 21 rfl rfl)
theorem dX0_write_48 : decode cX0_write 48 = .ok (.iconst 1, 1) := dk_4 (dk_at dksX0_write_2 0 rfl rfl)
theorem dX0_write_49 : decode cX0_write 49 = .ok (.iadd, 1) := dk_96 (dk_at dksX0_write_2 1 rfl rfl)
theorem dX0_write_50 : decode cX0_write 50 = .ok (.putfield 160, 3) := dk_181 0 160 (dk_at dksX0_write_2 2 rfl rfl)
theorem dX0_write_53 : decode cX0_write 53 = .ok (.aload_n 0, 1) := dk_42 (dk_at dksX0_write_2 5 rfl rfl)
theorem dX0_write_54 : decode cX0_write 54 = .ok (.getfield 160, 3) := dk_180 0 160 (dk_at dksX0_write_2 6 rfl rfl)
theorem dX0_write_57 : decode cX0_write 57 = .ok (.ireturn, 1) := dk_172 (dk_at dksX0_write_2 9 rfl rfl)
abbrev cX0_tear : ByteArray := prog_1_method_44_code
def yX0_tear : MethodName := ⟨RX0, "tear", "()I"⟩
def dkwX0_tear_0 : List UInt8 := [42, 180, 0, 160, 60, 42, 3, 181, 0, 160, 27, 172]
abbrev dktX0_tear_0 : List UInt8 := dkwX0_tear_0 ++ []
theorem dksX0_tear_0 : cX0_tear.data.toList.drop 0 = dktX0_tear_0 := by decide +kernel
theorem dX0_tear_0 : decode cX0_tear 0 = .ok (.aload_n 0, 1) := dk_42 (dk_at dksX0_tear_0 0 rfl rfl)
theorem dX0_tear_1 : decode cX0_tear 1 = .ok (.getfield 160, 3) := dk_180 0 160 (dk_at dksX0_tear_0 1 rfl rfl)
theorem dX0_tear_4 : decode cX0_tear 4 = .ok (.istore_n 1, 1) := dk_60 (dk_at dksX0_tear_0 4 rfl rfl)
theorem dX0_tear_5 : decode cX0_tear 5 = .ok (.aload_n 0, 1) := dk_42 (dk_at dksX0_tear_0 5 rfl rfl)
theorem dX0_tear_6 : decode cX0_tear 6 = .ok (.iconst 0, 1) := dk_3 (dk_at dksX0_tear_0 6 rfl rfl)
theorem dX0_tear_7 : decode cX0_tear 7 = .ok (.putfield 160, 3) := dk_181 0 160 (dk_at dksX0_tear_0 7 rfl rfl)
theorem dX0_tear_10 : decode cX0_tear 10 = .ok (.iload_n 1, 1) := dk_27 (dk_at dksX0_tear_0 10 rfl rfl)
theorem dX0_tear_11 : decode cX0_tear 11 = .ok (.ireturn, 1) := dk_172 (dk_at dksX0_tear_0 11 rfl rfl)
abbrev cX0_seed : ByteArray := prog_1_method_45_code
def yX0_seed : MethodName := ⟨RX0, "seed", "(I)I"⟩
def dkwX0_seed_0 : List UInt8 := [27, 156, 0, 6, 18, 122, 172, 42, 180, 1, 42, 61, 42, 27, 181, 1, 42, 28, 172]
abbrev dktX0_seed_0 : List UInt8 := dkwX0_seed_0 ++ []
theorem dksX0_seed_0 : cX0_seed.data.toList.drop 0 = dktX0_seed_0 := by decide +kernel
theorem dX0_seed_0 : decode cX0_seed 0 = .ok (.iload_n 1, 1) := dk_27 (dk_at dksX0_seed_0 0 rfl rfl)
theorem dX0_seed_1 : decode cX0_seed 1 = .ok (.ifCond .ge 6, 3) := dk_156 0 6 (dk_at dksX0_seed_0 1 rfl rfl)
theorem dX0_seed_4 : decode cX0_seed 4 = .ok (.ldc 122, 2) := dk_18 122 (dk_at dksX0_seed_0 4 rfl rfl)
theorem dX0_seed_6 : decode cX0_seed 6 = .ok (.ireturn, 1) := dk_172 (dk_at dksX0_seed_0 6 rfl rfl)
theorem dX0_seed_7 : decode cX0_seed 7 = .ok (.aload_n 0, 1) := dk_42 (dk_at dksX0_seed_0 7 rfl rfl)
theorem dX0_seed_8 : decode cX0_seed 8 = .ok (.getfield 298, 3) := dk_180 1 42 (dk_at dksX0_seed_0 8 rfl rfl)
theorem dX0_seed_11 : decode cX0_seed 11 = .ok (.istore_n 2, 1) := dk_61 (dk_at dksX0_seed_0 11 rfl rfl)
theorem dX0_seed_12 : decode cX0_seed 12 = .ok (.aload_n 0, 1) := dk_42 (dk_at dksX0_seed_0 12 rfl rfl)
theorem dX0_seed_13 : decode cX0_seed 13 = .ok (.iload_n 1, 1) := dk_27 (dk_at dksX0_seed_0 13 rfl rfl)
theorem dX0_seed_14 : decode cX0_seed 14 = .ok (.putfield 298, 3) := dk_181 1 42 (dk_at dksX0_seed_0 14 rfl rfl)
theorem dX0_seed_17 : decode cX0_seed 17 = .ok (.iload_n 2, 1) := dk_28 (dk_at dksX0_seed_0 17 rfl rfl)
theorem dX0_seed_18 : decode cX0_seed 18 = .ok (.ireturn, 1) := dk_172 (dk_at dksX0_seed_0 18 rfl rfl)
abbrev cX0_keep : ByteArray := prog_1_method_46_code
def yX0_keep : MethodName := ⟨RX0, "keep", "(I)I"⟩
def dkwX0_keep_2 : List UInt8 := [181, 0, 163, 4, 172]
abbrev dktX0_keep_2 : List UInt8 := dkwX0_keep_2 ++ []
def dkwX0_keep_1 : List UInt8 := [182, 0, 145, 42, 180, 0, 255, 27, 42, 180, 1, 42, 79, 42, 180, 0, 166, 27, 4, 84, 42, 3]
abbrev dktX0_keep_1 : List UInt8 := dkwX0_keep_1 ++ dktX0_keep_2
def dkwX0_keep_0 : List UInt8 := [27, 133, 9, 10, 184, 0, 118, 154, 0, 6, 18, 197, 172, 42, 180, 0, 252, 27, 50, 42, 180, 0, 74]
abbrev dktX0_keep_0 : List UInt8 := dkwX0_keep_0 ++ dktX0_keep_1
theorem dksX0_keep_0 : cX0_keep.data.toList.drop 0 = dktX0_keep_0 := by decide +kernel
theorem dksX0_keep_1 : cX0_keep.data.toList.drop 23 = dktX0_keep_1 := dk_seg dksX0_keep_0 23 rfl rfl
theorem dksX0_keep_2 : cX0_keep.data.toList.drop 45 = dktX0_keep_2 := dk_seg dksX0_keep_1 22 rfl rfl
theorem dX0_keep_0 : decode cX0_keep 0 = .ok (.iload_n 1, 1) := dk_27 (dk_at dksX0_keep_0 0 rfl rfl)
theorem dX0_keep_1 : decode cX0_keep 1 = .ok (.i2l, 1) := dk_133 (dk_at dksX0_keep_0 1 rfl rfl)
theorem dX0_keep_2 : decode cX0_keep 2 = .ok (.lconst 0, 1) := dk_9 (dk_at dksX0_keep_0 2 rfl rfl)
theorem dX0_keep_3 : decode cX0_keep 3 = .ok (.lconst 1, 1) := dk_10 (dk_at dksX0_keep_0 3 rfl rfl)
theorem dX0_keep_4 : decode cX0_keep 4 = .ok (.invokestatic 118, 3) := dk_184 0 118 (dk_at dksX0_keep_0 4 rfl rfl)
theorem dX0_keep_7 : decode cX0_keep 7 = .ok (.ifCond .ne 6, 3) := dk_154 0 6 (dk_at dksX0_keep_0 7 rfl rfl)
theorem dX0_keep_10 : decode cX0_keep 10 = .ok (.ldc 197, 2) := dk_18 197 (dk_at dksX0_keep_0 10 rfl rfl)
theorem dX0_keep_12 : decode cX0_keep 12 = .ok (.ireturn, 1) := dk_172 (dk_at dksX0_keep_0 12 rfl rfl)
theorem dX0_keep_13 : decode cX0_keep 13 = .ok (.aload_n 0, 1) := dk_42 (dk_at dksX0_keep_0 13 rfl rfl)
theorem dX0_keep_14 : decode cX0_keep 14 = .ok (.getfield 252, 3) := dk_180 0 252 (dk_at dksX0_keep_0 14 rfl rfl)
theorem dX0_keep_17 : decode cX0_keep 17 = .ok (.iload_n 1, 1) := dk_27 (dk_at dksX0_keep_0 17 rfl rfl)
theorem dX0_keep_18 : decode cX0_keep 18 = .ok (.aaload, 1) := dk_50 (dk_at dksX0_keep_0 18 rfl rfl)
theorem dX0_keep_19 : decode cX0_keep 19 = .ok (.aload_n 0, 1) := dk_42 (dk_at dksX0_keep_0 19 rfl rfl)
theorem dX0_keep_20 : decode cX0_keep 20 = .ok (.getfield 74, 3) := dk_180 0 74 (dk_at dksX0_keep_0 20 rfl rfl)
theorem dX0_keep_23 : decode cX0_keep 23 = .ok (.invokevirtual 145, 3) := dk_182 0 145 (dk_at dksX0_keep_1 0 rfl rfl)
theorem dX0_keep_26 : decode cX0_keep 26 = .ok (.aload_n 0, 1) := dk_42 (dk_at dksX0_keep_1 3 rfl rfl)
theorem dX0_keep_27 : decode cX0_keep 27 = .ok (.getfield 255, 3) := dk_180 0 255 (dk_at dksX0_keep_1 4 rfl rfl)
theorem dX0_keep_30 : decode cX0_keep 30 = .ok (.iload_n 1, 1) := dk_27 (dk_at dksX0_keep_1 7 rfl rfl)
theorem dX0_keep_31 : decode cX0_keep 31 = .ok (.aload_n 0, 1) := dk_42 (dk_at dksX0_keep_1 8 rfl rfl)
theorem dX0_keep_32 : decode cX0_keep 32 = .ok (.getfield 298, 3) := dk_180 1 42 (dk_at dksX0_keep_1 9 rfl rfl)
theorem dX0_keep_35 : decode cX0_keep 35 = .ok (.iastore, 1) := dk_79 (dk_at dksX0_keep_1 12 rfl rfl)
theorem dX0_keep_36 : decode cX0_keep 36 = .ok (.aload_n 0, 1) := dk_42 (dk_at dksX0_keep_1 13 rfl rfl)
theorem dX0_keep_37 : decode cX0_keep 37 = .ok (.getfield 166, 3) := dk_180 0 166 (dk_at dksX0_keep_1 14 rfl rfl)
theorem dX0_keep_40 : decode cX0_keep 40 = .ok (.iload_n 1, 1) := dk_27 (dk_at dksX0_keep_1 17 rfl rfl)
theorem dX0_keep_41 : decode cX0_keep 41 = .ok (.iconst 1, 1) := dk_4 (dk_at dksX0_keep_1 18 rfl rfl)
theorem dX0_keep_42 : decode cX0_keep 42 = .ok (.bastore, 1) := dk_84 (dk_at dksX0_keep_1 19 rfl rfl)
theorem dX0_keep_43 : decode cX0_keep 43 = .ok (.aload_n 0, 1) := dk_42 (dk_at dksX0_keep_1 20 rfl rfl)
theorem dX0_keep_44 : decode cX0_keep 44 = .ok (.iconst 0, 1) := dk_3 (dk_at dksX0_keep_1 21 rfl rfl)
theorem dX0_keep_45 : decode cX0_keep 45 = .ok (.putfield 163, 3) := dk_181 0 163 (dk_at dksX0_keep_2 0 rfl rfl)
theorem dX0_keep_48 : decode cX0_keep 48 = .ok (.iconst 1, 1) := dk_4 (dk_at dksX0_keep_2 3 rfl rfl)
theorem dX0_keep_49 : decode cX0_keep 49 = .ok (.ireturn, 1) := dk_172 (dk_at dksX0_keep_2 4 rfl rfl)
abbrev cX0_goBack : ByteArray := prog_1_method_47_code
def yX0_goBack : MethodName := ⟨RX0, "goBack", "(I)I"⟩
def dkwX0_goBack_2 : List UInt8 := [181, 1, 42, 42, 3, 181, 0, 163, 4, 172]
abbrev dktX0_goBack_2 : List UInt8 := dkwX0_goBack_2 ++ []
def dkwX0_goBack_1 : List UInt8 := [19, 1, 22, 172, 42, 180, 0, 74, 42, 180, 0, 252, 27, 50, 182, 0, 145, 42, 42, 180, 0, 255, 27, 46]
abbrev dktX0_goBack_1 : List UInt8 := dkwX0_goBack_1 ++ dktX0_goBack_2
def dkwX0_goBack_0 : List UInt8 := [27, 133, 9, 10, 184, 0, 118, 154, 0, 6, 18, 197, 172, 42, 180, 0, 166, 27, 51, 154, 0, 7]
abbrev dktX0_goBack_0 : List UInt8 := dkwX0_goBack_0 ++ dktX0_goBack_1
theorem dksX0_goBack_0 : cX0_goBack.data.toList.drop 0 = dktX0_goBack_0 := by decide +kernel
theorem dksX0_goBack_1 : cX0_goBack.data.toList.drop 22 = dktX0_goBack_1 := dk_seg dksX0_goBack_0 22 rfl rfl
theorem dksX0_goBack_2 : cX0_goBack.data.toList.drop 46 = dktX0_goBack_2 := dk_seg dksX0_goBack_1 24 rfl rfl
theorem dX0_goBack_0 : decode cX0_goBack 0 = .ok (.iload_n 1, 1) := dk_27 (dk_at dksX0_goBack_0 0 rfl rfl)
theorem dX0_goBack_1 : decode cX0_goBack 1 = .ok (.i2l, 1) := dk_133 (dk_at dksX0_goBack_0 1 rfl rfl)
theorem dX0_goBack_2 : decode cX0_goBack 2 = .ok (.lconst 0, 1) := dk_9 (dk_at dksX0_goBack_0 2 rfl rfl)
theorem dX0_goBack_3 : decode cX0_goBack 3 = .ok (.lconst 1, 1) := dk_10 (dk_at dksX0_goBack_0 3 rfl rfl)
theorem dX0_goBack_4 : decode cX0_goBack 4 = .ok (.invokestatic 118, 3) := dk_184 0 118 (dk_at dksX0_goBack_0 4 rfl rfl)
theorem dX0_goBack_7 : decode cX0_goBack 7 = .ok (.ifCond .ne 6, 3) := dk_154 0 6 (dk_at dksX0_goBack_0 7 rfl rfl)
theorem dX0_goBack_10 : decode cX0_goBack 10 = .ok (.ldc 197, 2) := dk_18 197 (dk_at dksX0_goBack_0 10 rfl rfl)
theorem dX0_goBack_12 : decode cX0_goBack 12 = .ok (.ireturn, 1) := dk_172 (dk_at dksX0_goBack_0 12 rfl rfl)
theorem dX0_goBack_13 : decode cX0_goBack 13 = .ok (.aload_n 0, 1) := dk_42 (dk_at dksX0_goBack_0 13 rfl rfl)
theorem dX0_goBack_14 : decode cX0_goBack 14 = .ok (.getfield 166, 3) := dk_180 0 166 (dk_at dksX0_goBack_0 14 rfl rfl)
theorem dX0_goBack_17 : decode cX0_goBack 17 = .ok (.iload_n 1, 1) := dk_27 (dk_at dksX0_goBack_0 17 rfl rfl)
theorem dX0_goBack_18 : decode cX0_goBack 18 = .ok (.baload, 1) := dk_51 (dk_at dksX0_goBack_0 18 rfl rfl)
theorem dX0_goBack_19 : decode cX0_goBack 19 = .ok (.ifCond .ne 7, 3) := dk_154 0 7 (dk_at dksX0_goBack_0 19 rfl rfl)
theorem dX0_goBack_22 : decode cX0_goBack 22 = .ok (.ldc_w 278, 3) := dk_19 1 22 (dk_at dksX0_goBack_1 0 rfl rfl)
theorem dX0_goBack_25 : decode cX0_goBack 25 = .ok (.ireturn, 1) := dk_172 (dk_at dksX0_goBack_1 3 rfl rfl)
theorem dX0_goBack_26 : decode cX0_goBack 26 = .ok (.aload_n 0, 1) := dk_42 (dk_at dksX0_goBack_1 4 rfl rfl)
theorem dX0_goBack_27 : decode cX0_goBack 27 = .ok (.getfield 74, 3) := dk_180 0 74 (dk_at dksX0_goBack_1 5 rfl rfl)
theorem dX0_goBack_30 : decode cX0_goBack 30 = .ok (.aload_n 0, 1) := dk_42 (dk_at dksX0_goBack_1 8 rfl rfl)
theorem dX0_goBack_31 : decode cX0_goBack 31 = .ok (.getfield 252, 3) := dk_180 0 252 (dk_at dksX0_goBack_1 9 rfl rfl)
theorem dX0_goBack_34 : decode cX0_goBack 34 = .ok (.iload_n 1, 1) := dk_27 (dk_at dksX0_goBack_1 12 rfl rfl)
theorem dX0_goBack_35 : decode cX0_goBack 35 = .ok (.aaload, 1) := dk_50 (dk_at dksX0_goBack_1 13 rfl rfl)
theorem dX0_goBack_36 : decode cX0_goBack 36 = .ok (.invokevirtual 145, 3) := dk_182 0 145 (dk_at dksX0_goBack_1 14 rfl rfl)
theorem dX0_goBack_39 : decode cX0_goBack 39 = .ok (.aload_n 0, 1) := dk_42 (dk_at dksX0_goBack_1 17 rfl rfl)
theorem dX0_goBack_40 : decode cX0_goBack 40 = .ok (.aload_n 0, 1) := dk_42 (dk_at dksX0_goBack_1 18 rfl rfl)
theorem dX0_goBack_41 : decode cX0_goBack 41 = .ok (.getfield 255, 3) := dk_180 0 255 (dk_at dksX0_goBack_1 19 rfl rfl)
theorem dX0_goBack_44 : decode cX0_goBack 44 = .ok (.iload_n 1, 1) := dk_27 (dk_at dksX0_goBack_1 22 rfl rfl)
theorem dX0_goBack_45 : decode cX0_goBack 45 = .ok (.iaload, 1) := dk_46 (dk_at dksX0_goBack_1 23 rfl rfl)
theorem dX0_goBack_46 : decode cX0_goBack 46 = .ok (.putfield 298, 3) := dk_181 1 42 (dk_at dksX0_goBack_2 0 rfl rfl)
theorem dX0_goBack_49 : decode cX0_goBack 49 = .ok (.aload_n 0, 1) := dk_42 (dk_at dksX0_goBack_2 3 rfl rfl)
theorem dX0_goBack_50 : decode cX0_goBack 50 = .ok (.iconst 0, 1) := dk_3 (dk_at dksX0_goBack_2 4 rfl rfl)
theorem dX0_goBack_51 : decode cX0_goBack 51 = .ok (.putfield 163, 3) := dk_181 0 163 (dk_at dksX0_goBack_2 5 rfl rfl)
theorem dX0_goBack_54 : decode cX0_goBack 54 = .ok (.iconst 1, 1) := dk_4 (dk_at dksX0_goBack_2 8 rfl rfl)
theorem dX0_goBack_55 : decode cX0_goBack 55 = .ok (.ireturn, 1) := dk_172 (dk_at dksX0_goBack_2 9 rfl rfl)
theorem q69 : (Jvm.Cond.initialized "LiarClocks") ∈ lw_all := lw_g (lw_at lw_m1 1 rfl) rfl
theorem q86 : (Jvm.Cond.instanceMethod ({ cls := "LiarClocks", name := "feed", desc := "(I)I" } : Jvm.MethodName)) ∈ lw_all := lw_g (lw_at lw_m1 18 rfl) rfl
theorem q87 : (Jvm.Cond.selects "LiarClocks" ({ cls := "LiarClocks", name := "feed", desc := "(I)I" } : Jvm.MethodName) ({ cls := "LiarClocks", name := "feed", desc := "(I)I" } : Jvm.MethodName)) ∈ lw_all := lw_g (lw_at lw_m1 19 rfl) rfl
theorem q88 : (Jvm.Cond.code ({ cls := "LiarClocks", name := "feed", desc := "(I)I" } : Jvm.MethodName) prog_1_method_10_code (2 : Nat) (Option.some Jvm.ClassFile.FieldType.int)) ∈ lw_all := lw_g (lw_at lw_m1 20 rfl) rfl
theorem q89 : (Jvm.Cond.constantLong "LiarClocks" (116 : Nat) (255 : Int64)) ∈ lw_all := lw_g (lw_at lw_m1 21 rfl) rfl
theorem q90 : (Jvm.Cond.methodLink "LiarClocks" (118 : Nat) ({ cls := "LiarClocks", name := "isIn", desc := "(JJJ)Z" } : Jvm.MethodName)) ∈ lw_all := lw_g (lw_at lw_m1 22 rfl) rfl
theorem q91 : (Jvm.Cond.static ({ cls := "LiarClocks", name := "isIn", desc := "(JJJ)Z" } : Jvm.MethodName)) ∈ lw_all := lw_g (lw_at lw_m1 23 rfl) rfl
theorem q92 : (Jvm.Cond.code ({ cls := "LiarClocks", name := "isIn", desc := "(JJJ)Z" } : Jvm.MethodName) prog_1_method_1_code (6 : Nat) (Option.some Jvm.ClassFile.FieldType.boolean)) ∈ lw_all := lw_g (lw_at lw_m1 24 rfl) rfl
theorem q93 : (Jvm.Cond.constant "LiarClocks" (122 : Nat) (-1000000002 : Int32)) ∈ lw_all := lw_g (lw_at lw_m1 25 rfl) rfl
theorem q94 : (Jvm.Cond.constant "LiarClocks" (126 : Nat) (-1000000004 : Int32)) ∈ lw_all := lw_g (lw_at lw_m1 26 rfl) rfl
theorem q96 : (Jvm.Cond.instanceMethod ({ cls := "LiarClocks", name := "clocks", desc := "()I" } : Jvm.MethodName)) ∈ lw_all := lw_g (lw_at lw_m1 28 rfl) rfl
theorem q97 : (Jvm.Cond.selects "LiarClocks" ({ cls := "LiarClocks", name := "clocks", desc := "()I" } : Jvm.MethodName) ({ cls := "LiarClocks", name := "clocks", desc := "()I" } : Jvm.MethodName)) ∈ lw_all := lw_g (lw_at lw_m1 29 rfl) rfl
theorem q98 : (Jvm.Cond.code ({ cls := "LiarClocks", name := "clocks", desc := "()I" } : Jvm.MethodName) prog_1_method_12_code (2 : Nat) (Option.some Jvm.ClassFile.FieldType.int)) ∈ lw_all := lw_g (lw_at lw_m1 30 rfl) rfl
theorem q99 : (Jvm.Cond.methodLink "LiarClocks" (157 : Nat) ({ cls := "LiarClocks", name := "readText", desc := "()I" } : Jvm.MethodName)) ∈ lw_all := lw_g (lw_at lw_m1 31 rfl) rfl
theorem q100 : (Jvm.Cond.privateMethod ({ cls := "LiarClocks", name := "readText", desc := "()I" } : Jvm.MethodName)) ∈ lw_tbl := lw_at lw_m1 32 rfl
theorem q101 : (Jvm.Cond.instanceMethod ({ cls := "LiarClocks", name := "readText", desc := "()I" } : Jvm.MethodName)) ∈ lw_all := lw_g (lw_at lw_m1 33 rfl) rfl
theorem q102 : (Jvm.Cond.instantiable "LiarClocks" (19 : Nat)) ∈ lw_all := lw_g (lw_at lw_m1 34 rfl) rfl
theorem q103 : (Jvm.Cond.codeWith ({ cls := "LiarClocks", name := "readText", desc := "()I" } : Jvm.MethodName) prog_1_method_11_code (2 : Nat) (Option.some Jvm.ClassFile.FieldType.int) [((5 : Nat), (30 : Nat), (31 : Nat), (149 : Nat))]) ∈ lw_all := lw_g (lw_at lw_m1 35 rfl) rfl
theorem q104 : (Jvm.Cond.classLink "LiarClocks" (149 : Nat) "LiarClocks$Unread") ∈ lw_all := lw_g (lw_at lw_m1 36 rfl) rfl
theorem q105 : (Jvm.Cond.classLink "LiarClocks" (134 : Nat) "LiarClocks$Reader") ∈ lw_all := lw_g (lw_at lw_m1 37 rfl) rfl
theorem q107 : (Jvm.Cond.methodLinkNest "LiarClocks" (136 : Nat) ({ cls := "LiarClocks$Reader", name := "<init>", desc := "(LLiarClocks;)V" } : Jvm.MethodName) "LiarClocks") ∈ lw_tbl := lw_at lw_m1 39 rfl
theorem q120 : (Jvm.Cond.fieldLinkNest "LiarClocks" (28 : Nat) "LiarClocks$House" "many" "I" "LiarClocks") ∈ lw_tbl := lw_at lw_m1 52 rfl
theorem q123 : (Jvm.Cond.fieldLinkNest "LiarClocks" (40 : Nat) "LiarClocks$House" "strike" "I" "LiarClocks") ∈ lw_tbl := lw_at lw_m1 55 rfl
theorem q127 : (Jvm.Cond.fieldLinkNest "LiarClocks" (175 : Nat) "LiarClocks$House" "step" "I" "LiarClocks") ∈ lw_tbl := lw_at lw_m1 59 rfl
theorem q129 : (Jvm.Cond.fieldLinkNest "LiarClocks" (58 : Nat) "LiarClocks$House" "values" "[I" "LiarClocks") ∈ lw_tbl := lw_at lw_m1 61 rfl
theorem q133 : (Jvm.Cond.fieldLinkNest "LiarClocks" (198 : Nat) "LiarClocks$House" "rates" "[I" "LiarClocks") ∈ lw_tbl := lw_at lw_m1 65 rfl
theorem q135 : (Jvm.Cond.fieldLinkNest "LiarClocks" (61 : Nat) "LiarClocks$House" "ahead" "[I" "LiarClocks") ∈ lw_tbl := lw_at lw_m1 67 rfl
theorem q137 : (Jvm.Cond.fieldLinkNest "LiarClocks" (78 : Nat) "LiarClocks$House" "lies" "[Z" "LiarClocks") ∈ lw_tbl := lw_at lw_m1 69 rfl
theorem q140 : (Jvm.Cond.fieldLinkNest "LiarClocks" (82 : Nat) "LiarClocks$House" "stands" "[Z" "LiarClocks") ∈ lw_tbl := lw_at lw_m1 72 rfl
theorem q142 : (Jvm.Cond.fieldLinkNest "LiarClocks" (210 : Nat) "LiarClocks$House" "lie" "[I" "LiarClocks") ∈ lw_tbl := lw_at lw_m1 74 rfl
theorem q144 : (Jvm.Cond.fieldLinkNest "LiarClocks" (223 : Nat) "LiarClocks$House" "error" "[I" "LiarClocks") ∈ lw_tbl := lw_at lw_m1 76 rfl
theorem q146 : (Jvm.Cond.fieldLinkNest "LiarClocks" (169 : Nat) "LiarClocks$House" "alarms" "I" "LiarClocks") ∈ lw_tbl := lw_at lw_m1 78 rfl
theorem q148 : (Jvm.Cond.fieldLinkNest "LiarClocks" (232 : Nat) "LiarClocks$House" "alarmOf" "[I" "LiarClocks") ∈ lw_tbl := lw_at lw_m1 80 rfl
theorem q150 : (Jvm.Cond.fieldLinkNest "LiarClocks" (235 : Nat) "LiarClocks$House" "alarmAt" "[I" "LiarClocks") ∈ lw_tbl := lw_at lw_m1 82 rfl
theorem q152 : (Jvm.Cond.fieldLinkNest "LiarClocks" (172 : Nat) "LiarClocks$House" "isRung" "[Z" "LiarClocks") ∈ lw_tbl := lw_at lw_m1 84 rfl
theorem q154 : (Jvm.Cond.fieldLinkNest "LiarClocks" (187 : Nat) "LiarClocks$House" "times" "I" "LiarClocks") ∈ lw_tbl := lw_at lw_m1 86 rfl
theorem q189 : (Jvm.Cond.fieldLinkNest "LiarClocks" (142 : Nat) "LiarClocks$Reader" "read" "LLiarClocks$House;" "LiarClocks") ∈ lw_tbl := lw_at lw_m1 121 rfl
theorem q205 : (Jvm.Cond.methodLink "LiarClocks" (139 : Nat) ({ cls := "LiarClocks$Reader", name := "all", desc := "()V" } : Jvm.MethodName)) ∈ lw_all := lw_g (lw_at lw_m1 137 rfl) rfl
theorem q348 : (Jvm.Cond.fieldLinkNest "LiarClocks" (151 : Nat) "LiarClocks$Unread" "place" "I" "LiarClocks") ∈ lw_tbl := lw_at lw_m2 40 rfl
theorem q396 : (Jvm.Cond.methodLink "LiarClocks" (145 : Nat) ({ cls := "LiarClocks$House", name := "become", desc := "(LLiarClocks$House;)V" } : Jvm.MethodName)) ∈ lw_all := lw_g (lw_at lw_m2 88 rfl) rfl
theorem q403 : (Jvm.Cond.methodLink "LiarClocks" (154 : Nat) ({ cls := "LiarClocks$Unread", name := "number", desc := "()I" } : Jvm.MethodName)) ∈ lw_all := lw_g (lw_at lw_m2 95 rfl) rfl
theorem q417 : (Jvm.Cond.instanceMethod ({ cls := "LiarClocks", name := "fault", desc := "()I" } : Jvm.MethodName)) ∈ lw_all := lw_g (lw_at lw_m2 109 rfl) rfl
theorem q418 : (Jvm.Cond.selects "LiarClocks" ({ cls := "LiarClocks", name := "fault", desc := "()I" } : Jvm.MethodName) ({ cls := "LiarClocks", name := "fault", desc := "()I" } : Jvm.MethodName)) ∈ lw_all := lw_g (lw_at lw_m2 110 rfl) rfl
theorem q419 : (Jvm.Cond.code ({ cls := "LiarClocks", name := "fault", desc := "()I" } : Jvm.MethodName) prog_1_method_13_code (1 : Nat) (Option.some Jvm.ClassFile.FieldType.int)) ∈ lw_all := lw_g (lw_at lw_m2 111 rfl) rfl
theorem q421 : (Jvm.Cond.instanceMethod ({ cls := "LiarClocks", name := "told", desc := "(I)I" } : Jvm.MethodName)) ∈ lw_all := lw_g (lw_at lw_m2 113 rfl) rfl
theorem q422 : (Jvm.Cond.selects "LiarClocks" ({ cls := "LiarClocks", name := "told", desc := "(I)I" } : Jvm.MethodName) ({ cls := "LiarClocks", name := "told", desc := "(I)I" } : Jvm.MethodName)) ∈ lw_all := lw_g (lw_at lw_m2 114 rfl) rfl
theorem q423 : (Jvm.Cond.code ({ cls := "LiarClocks", name := "told", desc := "(I)I" } : Jvm.MethodName) prog_1_method_15_code (2 : Nat) (Option.some Jvm.ClassFile.FieldType.int)) ∈ lw_all := lw_g (lw_at lw_m2 115 rfl) rfl
theorem q424 : (Jvm.Cond.methodLink "LiarClocks" (105 : Nat) ({ cls := "LiarClocks$House", name := "setOf", desc := "([Z)I" } : Jvm.MethodName)) ∈ lw_all := lw_g (lw_at lw_m2 116 rfl) rfl
theorem q428 : (Jvm.Cond.methodLink "LiarClocks" (93 : Nat) ({ cls := "LiarClocks$House", name := "trueOnes", desc := "()I" } : Jvm.MethodName)) ∈ lw_all := lw_g (lw_at lw_m2 120 rfl) rfl
theorem q433 : (Jvm.Cond.methodLink "LiarClocks" (102 : Nat) ({ cls := "LiarClocks$House", name := "apart", desc := "()I" } : Jvm.MethodName)) ∈ lw_all := lw_g (lw_at lw_m2 125 rfl) rfl
theorem q451 : (Jvm.Cond.methodLink "LiarClocks" (178 : Nat) ({ cls := "LiarClocks", name := "worst", desc := "()I" } : Jvm.MethodName)) ∈ lw_all := lw_g (lw_at lw_m2 143 rfl) rfl
theorem q452 : (Jvm.Cond.privateMethod ({ cls := "LiarClocks", name := "worst", desc := "()I" } : Jvm.MethodName)) ∈ lw_tbl := lw_at lw_m2 144 rfl
theorem q453 : (Jvm.Cond.instanceMethod ({ cls := "LiarClocks", name := "worst", desc := "()I" } : Jvm.MethodName)) ∈ lw_all := lw_g (lw_at lw_m2 145 rfl) rfl
theorem q454 : (Jvm.Cond.codeWith ({ cls := "LiarClocks", name := "worst", desc := "()I" } : Jvm.MethodName) prog_1_method_8_code (4 : Nat) (Option.some Jvm.ClassFile.FieldType.int) [((59 : Nat), (82 : Nat), (83 : Nat), (11 : Nat))]) ∈ lw_all := lw_g (lw_at lw_m2 146 rfl) rfl
theorem q455 : (Jvm.Cond.classLink "LiarClocks" (11 : Nat) "LiarClocks$Struck") ∈ lw_all := lw_g (lw_at lw_m2 147 rfl) rfl
theorem q456 : (Jvm.Cond.methodLink "LiarClocks" (97 : Nat) ({ cls := "java/lang/Integer", name := "bitCount", desc := "(I)I" } : Jvm.MethodName)) ∈ lw_all := lw_g (lw_at lw_m2 148 rfl) rfl
theorem q462 : (Jvm.Cond.methodLink "LiarClocks" (109 : Nat) ({ cls := "LiarClocks", name := "worstOf", desc := "(I)I" } : Jvm.MethodName)) ∈ lw_all := lw_g (lw_at lw_m2 154 rfl) rfl
theorem q463 : (Jvm.Cond.privateMethod ({ cls := "LiarClocks", name := "worstOf", desc := "(I)I" } : Jvm.MethodName)) ∈ lw_tbl := lw_at lw_m2 155 rfl
theorem q464 : (Jvm.Cond.instanceMethod ({ cls := "LiarClocks", name := "worstOf", desc := "(I)I" } : Jvm.MethodName)) ∈ lw_all := lw_g (lw_at lw_m2 156 rfl) rfl
theorem q465 : (Jvm.Cond.code ({ cls := "LiarClocks", name := "worstOf", desc := "(I)I" } : Jvm.MethodName) prog_1_method_7_code (6 : Nat) (Option.some Jvm.ClassFile.FieldType.int)) ∈ lw_all := lw_g (lw_at lw_m2 157 rfl) rfl
theorem q466 : (Jvm.Cond.constant "LiarClocks" (85 : Nat) (500000000 : Int32)) ∈ lw_all := lw_g (lw_at lw_m2 158 rfl) rfl
theorem q467 : (Jvm.Cond.methodLink "LiarClocks" (86 : Nat) ({ cls := "LiarClocks", name := "extremeOf", desc := "(II)I" } : Jvm.MethodName)) ∈ lw_all := lw_g (lw_at lw_m2 159 rfl) rfl
theorem q468 : (Jvm.Cond.privateMethod ({ cls := "LiarClocks", name := "extremeOf", desc := "(II)I" } : Jvm.MethodName)) ∈ lw_tbl := lw_at lw_m2 160 rfl
theorem q469 : (Jvm.Cond.instanceMethod ({ cls := "LiarClocks", name := "extremeOf", desc := "(II)I" } : Jvm.MethodName)) ∈ lw_all := lw_g (lw_at lw_m2 161 rfl) rfl
theorem q470 : (Jvm.Cond.code ({ cls := "LiarClocks", name := "extremeOf", desc := "(II)I" } : Jvm.MethodName) prog_1_method_6_code (5 : Nat) (Option.some Jvm.ClassFile.FieldType.int)) ∈ lw_all := lw_g (lw_at lw_m2 162 rfl) rfl
theorem q471 : (Jvm.Cond.methodLink "LiarClocks" (33 : Nat) ({ cls := "LiarClocks$House", name := "heardBy", desc := "(II)I" } : Jvm.MethodName)) ∈ lw_all := lw_g (lw_at lw_m2 163 rfl) rfl
theorem q475 : (Jvm.Cond.methodLink "LiarClocks" (36 : Nat) ({ cls := "LiarClocks", name := "hear", desc := "(I)V" } : Jvm.MethodName)) ∈ lw_all := lw_g (lw_at lw_m2 167 rfl) rfl
theorem q476 : (Jvm.Cond.privateMethod ({ cls := "LiarClocks", name := "hear", desc := "(I)V" } : Jvm.MethodName)) ∈ lw_tbl := lw_at lw_m2 168 rfl
theorem q477 : (Jvm.Cond.instanceMethod ({ cls := "LiarClocks", name := "hear", desc := "(I)V" } : Jvm.MethodName)) ∈ lw_all := lw_g (lw_at lw_m2 169 rfl) rfl
theorem q478 : (Jvm.Cond.code ({ cls := "LiarClocks", name := "hear", desc := "(I)V" } : Jvm.MethodName) prog_1_method_2_code (3 : Nat) (Option.none : Option Jvm.ClassFile.FieldType)) ∈ lw_all := lw_g (lw_at lw_m2 170 rfl) rfl
theorem q479 : (Jvm.Cond.methodLink "LiarClocks" (43 : Nat) ({ cls := "LiarClocks", name := "middle", desc := "(I)I" } : Jvm.MethodName)) ∈ lw_all := lw_g (lw_at lw_m2 171 rfl) rfl
theorem q480 : (Jvm.Cond.privateMethod ({ cls := "LiarClocks", name := "middle", desc := "(I)I" } : Jvm.MethodName)) ∈ lw_tbl := lw_at lw_m2 172 rfl
theorem q481 : (Jvm.Cond.instanceMethod ({ cls := "LiarClocks", name := "middle", desc := "(I)I" } : Jvm.MethodName)) ∈ lw_all := lw_g (lw_at lw_m2 173 rfl) rfl
theorem q482 : (Jvm.Cond.code ({ cls := "LiarClocks", name := "middle", desc := "(I)I" } : Jvm.MethodName) prog_1_method_3_code (2 : Nat) (Option.some Jvm.ClassFile.FieldType.int)) ∈ lw_all := lw_g (lw_at lw_m2 174 rfl) rfl
theorem q491 : (Jvm.Cond.classLink "LiarClocks" (13 : Nat) "LiarClocks$Unheard") ∈ lw_all := lw_g (lw_at lw_m2 183 rfl) rfl
theorem q500 : (Jvm.Cond.methodLink "LiarClocks" (15 : Nat) ({ cls := "LiarClocks$Unheard", name := "<init>", desc := "()V" } : Jvm.MethodName)) ∈ lw_all := lw_g (lw_at lw_m2 192 rfl) rfl
theorem q507 : (Jvm.Cond.methodLink "LiarClocks" (19 : Nat) ({ cls := "LiarClocks$Struck", name := "<init>", desc := "(LLiarClocks$Unheard;)V" } : Jvm.MethodName)) ∈ lw_all := lw_g (lw_at lw_m2 199 rfl) rfl
theorem q520 : (Jvm.Cond.methodLink "LiarClocks" (22 : Nat) ({ cls := "java/lang/Math", name := "floorDiv", desc := "(II)I" } : Jvm.MethodName)) ∈ lw_all := lw_g (lw_at lw_m2 212 rfl) rfl
theorem q523 : (Jvm.Cond.constant "LiarClocks" (89 : Nat) (-500000000 : Int32)) ∈ lw_all := lw_g (lw_at lw_m2 215 rfl) rfl
theorem q524 : (Jvm.Cond.methodLink "LiarClocks" (90 : Nat) ({ cls := "java/lang/Math", name := "max", desc := "(II)I" } : Jvm.MethodName)) ∈ lw_all := lw_g (lw_at lw_m2 216 rfl) rfl
theorem q525 : (Jvm.Cond.constant "LiarClocks" (112 : Nat) (1000000 : Int32)) ∈ lw_all := lw_g (lw_at lw_m2 217 rfl) rfl
theorem q526 : (Jvm.Cond.methodLink "LiarClocks" (181 : Nat) ({ cls := "LiarClocks", name := "mayLie", desc := "()I" } : Jvm.MethodName)) ∈ lw_all := lw_g (lw_at lw_m2 218 rfl) rfl
theorem q527 : (Jvm.Cond.privateMethod ({ cls := "LiarClocks", name := "mayLie", desc := "()I" } : Jvm.MethodName)) ∈ lw_tbl := lw_at lw_m2 219 rfl
theorem q528 : (Jvm.Cond.instanceMethod ({ cls := "LiarClocks", name := "mayLie", desc := "()I" } : Jvm.MethodName)) ∈ lw_all := lw_g (lw_at lw_m2 220 rfl) rfl
theorem q529 : (Jvm.Cond.code ({ cls := "LiarClocks", name := "mayLie", desc := "()I" } : Jvm.MethodName) prog_1_method_9_code (2 : Nat) (Option.some Jvm.ClassFile.FieldType.int)) ∈ lw_all := lw_g (lw_at lw_m2 221 rfl) rfl
theorem q530 : (Jvm.Cond.methodLink "LiarClocks" (113 : Nat) ({ cls := "java/lang/Math", name := "min", desc := "(II)I" } : Jvm.MethodName)) ∈ lw_all := lw_g (lw_at lw_m2 222 rfl) rfl
theorem q531 : (Jvm.Cond.methodLink "LiarClocks" (184 : Nat) ({ cls := "LiarClocks", name := "rungOnes", desc := "()I" } : Jvm.MethodName)) ∈ lw_all := lw_g (lw_at lw_m2 223 rfl) rfl
theorem q532 : (Jvm.Cond.privateMethod ({ cls := "LiarClocks", name := "rungOnes", desc := "()I" } : Jvm.MethodName)) ∈ lw_tbl := lw_at lw_m2 224 rfl
theorem q533 : (Jvm.Cond.instanceMethod ({ cls := "LiarClocks", name := "rungOnes", desc := "()I" } : Jvm.MethodName)) ∈ lw_all := lw_g (lw_at lw_m2 225 rfl) rfl
theorem q534 : (Jvm.Cond.code ({ cls := "LiarClocks", name := "rungOnes", desc := "()I" } : Jvm.MethodName) prog_1_method_14_code (3 : Nat) (Option.some Jvm.ClassFile.FieldType.int)) ∈ lw_all := lw_g (lw_at lw_m2 226 rfl) rfl
theorem q535 : (Jvm.Cond.methodLink "LiarClocks" (190 : Nat) ({ cls := "LiarClocks", name := "judge", desc := "()I" } : Jvm.MethodName)) ∈ lw_all := lw_g (lw_at lw_m2 227 rfl) rfl
theorem q536 : (Jvm.Cond.privateMethod ({ cls := "LiarClocks", name := "judge", desc := "()I" } : Jvm.MethodName)) ∈ lw_tbl := lw_at lw_m2 228 rfl
theorem q537 : (Jvm.Cond.instanceMethod ({ cls := "LiarClocks", name := "judge", desc := "()I" } : Jvm.MethodName)) ∈ lw_all := lw_g (lw_at lw_m2 229 rfl) rfl
theorem q538 : (Jvm.Cond.code ({ cls := "LiarClocks", name := "judge", desc := "()I" } : Jvm.MethodName) prog_1_method_43_code (2 : Nat) (Option.some Jvm.ClassFile.FieldType.int)) ∈ lw_all := lw_g (lw_at lw_m2 230 rfl) rfl
theorem q539 : (Jvm.Cond.methodLink "LiarClocks" (194 : Nat) ({ cls := "LiarClocks", name := "isClock", desc := "(I)Z" } : Jvm.MethodName)) ∈ lw_all := lw_g (lw_at lw_m2 231 rfl) rfl
theorem q540 : (Jvm.Cond.privateMethod ({ cls := "LiarClocks", name := "isClock", desc := "(I)Z" } : Jvm.MethodName)) ∈ lw_tbl := lw_at lw_m2 232 rfl
theorem q541 : (Jvm.Cond.instanceMethod ({ cls := "LiarClocks", name := "isClock", desc := "(I)Z" } : Jvm.MethodName)) ∈ lw_all := lw_g (lw_at lw_m2 233 rfl) rfl
theorem q542 : (Jvm.Cond.code ({ cls := "LiarClocks", name := "isClock", desc := "(I)Z" } : Jvm.MethodName) prog_1_method_16_code (2 : Nat) (Option.some Jvm.ClassFile.FieldType.boolean)) ∈ lw_all := lw_g (lw_at lw_m2 234 rfl) rfl
theorem q543 : (Jvm.Cond.methodLink "LiarClocks" (201 : Nat) ({ cls := "LiarClocks$House", name := "aim", desc := "(I)I" } : Jvm.MethodName)) ∈ lw_all := lw_g (lw_at lw_m2 235 rfl) rfl
theorem q545 : (Jvm.Cond.instanceMethod ({ cls := "LiarClocks", name := "clock", desc := "(II)I" } : Jvm.MethodName)) ∈ lw_all := lw_g (lw_at lw_m2 237 rfl) rfl
theorem q546 : (Jvm.Cond.selects "LiarClocks" ({ cls := "LiarClocks", name := "clock", desc := "(II)I" } : Jvm.MethodName) ({ cls := "LiarClocks", name := "clock", desc := "(II)I" } : Jvm.MethodName)) ∈ lw_all := lw_g (lw_at lw_m2 238 rfl) rfl
theorem q547 : (Jvm.Cond.code ({ cls := "LiarClocks", name := "clock", desc := "(II)I" } : Jvm.MethodName) prog_1_method_18_code (3 : Nat) (Option.some Jvm.ClassFile.FieldType.int)) ∈ lw_all := lw_g (lw_at lw_m2 239 rfl) rfl
theorem q548 : (Jvm.Cond.constant "LiarClocks" (197 : Nat) (-1000000001 : Int32)) ∈ lw_all := lw_g (lw_at lw_m3 0 rfl) rfl
theorem q549 : (Jvm.Cond.constant "LiarClocks" (193 : Nat) (100000 : Int32)) ∈ lw_all := lw_g (lw_at lw_m3 1 rfl) rfl
theorem q550 : (Jvm.Cond.methodLink "LiarClocks" (204 : Nat) ({ cls := "LiarClocks", name := "wouldBe", desc := "(I)I" } : Jvm.MethodName)) ∈ lw_all := lw_g (lw_at lw_m3 2 rfl) rfl
theorem q551 : (Jvm.Cond.privateMethod ({ cls := "LiarClocks", name := "wouldBe", desc := "(I)I" } : Jvm.MethodName)) ∈ lw_tbl := lw_at lw_m3 3 rfl
theorem q552 : (Jvm.Cond.instanceMethod ({ cls := "LiarClocks", name := "wouldBe", desc := "(I)I" } : Jvm.MethodName)) ∈ lw_all := lw_g (lw_at lw_m3 4 rfl) rfl
theorem q553 : (Jvm.Cond.codeWith ({ cls := "LiarClocks", name := "wouldBe", desc := "(I)I" } : Jvm.MethodName) prog_1_method_17_code (3 : Nat) (Option.some Jvm.ClassFile.FieldType.int) [((0 : Nat), (27 : Nat), (28 : Nat), (11 : Nat))]) ∈ lw_all := lw_g (lw_at lw_m3 5 rfl) rfl
theorem q554 : (Jvm.Cond.methodLink "LiarClocks" (50 : Nat) ({ cls := "LiarClocks$House", name := "isTrue", desc := "(I)Z" } : Jvm.MethodName)) ∈ lw_all := lw_g (lw_at lw_m3 6 rfl) rfl
theorem q555 : (Jvm.Cond.methodLink "LiarClocks" (54 : Nat) ({ cls := "LiarClocks", name := "middleOf", desc := "(LLiarClocks$House;I)I" } : Jvm.MethodName)) ∈ lw_all := lw_g (lw_at lw_m3 7 rfl) rfl
theorem q556 : (Jvm.Cond.privateMethod ({ cls := "LiarClocks", name := "middleOf", desc := "(LLiarClocks$House;I)I" } : Jvm.MethodName)) ∈ lw_tbl := lw_at lw_m3 8 rfl
theorem q557 : (Jvm.Cond.instanceMethod ({ cls := "LiarClocks", name := "middleOf", desc := "(LLiarClocks$House;I)I" } : Jvm.MethodName)) ∈ lw_all := lw_g (lw_at lw_m3 9 rfl) rfl
theorem q558 : (Jvm.Cond.code ({ cls := "LiarClocks", name := "middleOf", desc := "(LLiarClocks$House;I)I" } : Jvm.MethodName) prog_1_method_4_code (4 : Nat) (Option.some Jvm.ClassFile.FieldType.int)) ∈ lw_all := lw_g (lw_at lw_m3 10 rfl) rfl
theorem q560 : (Jvm.Cond.instanceMethod ({ cls := "LiarClocks", name := "heard", desc := "(III)I" } : Jvm.MethodName)) ∈ lw_all := lw_g (lw_at lw_m3 12 rfl) rfl
theorem q561 : (Jvm.Cond.selects "LiarClocks" ({ cls := "LiarClocks", name := "heard", desc := "(III)I" } : Jvm.MethodName) ({ cls := "LiarClocks", name := "heard", desc := "(III)I" } : Jvm.MethodName)) ∈ lw_all := lw_g (lw_at lw_m3 13 rfl) rfl
theorem q562 : (Jvm.Cond.code ({ cls := "LiarClocks", name := "heard", desc := "(III)I" } : Jvm.MethodName) prog_1_method_23_code (4 : Nat) (Option.some Jvm.ClassFile.FieldType.int)) ∈ lw_all := lw_g (lw_at lw_m3 14 rfl) rfl
theorem q563 : (Jvm.Cond.methodLink "LiarClocks" (219 : Nat) ({ cls := "LiarClocks", name := "arePair", desc := "(II)Z" } : Jvm.MethodName)) ∈ lw_all := lw_g (lw_at lw_m3 15 rfl) rfl
theorem q564 : (Jvm.Cond.privateMethod ({ cls := "LiarClocks", name := "arePair", desc := "(II)Z" } : Jvm.MethodName)) ∈ lw_tbl := lw_at lw_m3 16 rfl
theorem q565 : (Jvm.Cond.instanceMethod ({ cls := "LiarClocks", name := "arePair", desc := "(II)Z" } : Jvm.MethodName)) ∈ lw_all := lw_g (lw_at lw_m3 17 rfl) rfl
theorem q566 : (Jvm.Cond.code ({ cls := "LiarClocks", name := "arePair", desc := "(II)Z" } : Jvm.MethodName) prog_1_method_19_code (3 : Nat) (Option.some Jvm.ClassFile.FieldType.boolean)) ∈ lw_all := lw_g (lw_at lw_m3 18 rfl) rfl
theorem q567 : (Jvm.Cond.methodLink "LiarClocks" (226 : Nat) ({ cls := "LiarClocks", name := "rank", desc := "(II)I" } : Jvm.MethodName)) ∈ lw_all := lw_g (lw_at lw_m3 19 rfl) rfl
theorem q568 : (Jvm.Cond.privateMethod ({ cls := "LiarClocks", name := "rank", desc := "(II)I" } : Jvm.MethodName)) ∈ lw_tbl := lw_at lw_m3 20 rfl
theorem q569 : (Jvm.Cond.instanceMethod ({ cls := "LiarClocks", name := "rank", desc := "(II)I" } : Jvm.MethodName)) ∈ lw_all := lw_g (lw_at lw_m3 21 rfl) rfl
theorem q570 : (Jvm.Cond.code ({ cls := "LiarClocks", name := "rank", desc := "(II)I" } : Jvm.MethodName) prog_1_method_20_code (7 : Nat) (Option.some Jvm.ClassFile.FieldType.int)) ∈ lw_all := lw_g (lw_at lw_m3 22 rfl) rfl
theorem q571 : (Jvm.Cond.methodLink "LiarClocks" (229 : Nat) ({ cls := "LiarClocks", name := "farthest", desc := "(II)I" } : Jvm.MethodName)) ∈ lw_all := lw_g (lw_at lw_m3 23 rfl) rfl
theorem q572 : (Jvm.Cond.privateMethod ({ cls := "LiarClocks", name := "farthest", desc := "(II)I" } : Jvm.MethodName)) ∈ lw_tbl := lw_at lw_m3 24 rfl
theorem q573 : (Jvm.Cond.instanceMethod ({ cls := "LiarClocks", name := "farthest", desc := "(II)I" } : Jvm.MethodName)) ∈ lw_all := lw_g (lw_at lw_m3 25 rfl) rfl
theorem q574 : (Jvm.Cond.code ({ cls := "LiarClocks", name := "farthest", desc := "(II)I" } : Jvm.MethodName) prog_1_method_21_code (7 : Nat) (Option.some Jvm.ClassFile.FieldType.int)) ∈ lw_all := lw_g (lw_at lw_m3 26 rfl) rfl
theorem q575 : (Jvm.Cond.methodLink "LiarClocks" (213 : Nat) ({ cls := "LiarClocks", name := "offOf", desc := "(I)I" } : Jvm.MethodName)) ∈ lw_all := lw_g (lw_at lw_m3 27 rfl) rfl
theorem q576 : (Jvm.Cond.privateMethod ({ cls := "LiarClocks", name := "offOf", desc := "(I)I" } : Jvm.MethodName)) ∈ lw_tbl := lw_at lw_m3 28 rfl
theorem q577 : (Jvm.Cond.instanceMethod ({ cls := "LiarClocks", name := "offOf", desc := "(I)I" } : Jvm.MethodName)) ∈ lw_all := lw_g (lw_at lw_m3 29 rfl) rfl
theorem q578 : (Jvm.Cond.codeWith ({ cls := "LiarClocks", name := "offOf", desc := "(I)I" } : Jvm.MethodName) prog_1_method_22_code (3 : Nat) (Option.some Jvm.ClassFile.FieldType.int) [((0 : Nat), (21 : Nat), (22 : Nat), (11 : Nat))]) ∈ lw_all := lw_g (lw_at lw_m3 30 rfl) rfl
theorem q579 : (Jvm.Cond.methodLink "LiarClocks" (216 : Nat) ({ cls := "java/lang/Math", name := "abs", desc := "(I)I" } : Jvm.MethodName)) ∈ lw_all := lw_g (lw_at lw_m3 31 rfl) rfl
theorem q583 : (Jvm.Cond.instanceMethod ({ cls := "LiarClocks", name := "alarmAt", desc := "(II)I" } : Jvm.MethodName)) ∈ lw_all := lw_g (lw_at lw_m3 35 rfl) rfl
theorem q584 : (Jvm.Cond.selects "LiarClocks" ({ cls := "LiarClocks", name := "alarmAt", desc := "(II)I" } : Jvm.MethodName) ({ cls := "LiarClocks", name := "alarmAt", desc := "(II)I" } : Jvm.MethodName)) ∈ lw_all := lw_g (lw_at lw_m3 36 rfl) rfl
theorem q585 : (Jvm.Cond.code ({ cls := "LiarClocks", name := "alarmAt", desc := "(II)I" } : Jvm.MethodName) prog_1_method_24_code (3 : Nat) (Option.some Jvm.ClassFile.FieldType.int)) ∈ lw_all := lw_g (lw_at lw_m3 37 rfl) rfl
theorem q588 : (Jvm.Cond.instanceMethod ({ cls := "LiarClocks", name := "<init>", desc := "()V" } : Jvm.MethodName)) ∈ lw_all := lw_g (lw_at lw_m3 40 rfl) rfl
theorem q589 : (Jvm.Cond.code ({ cls := "LiarClocks", name := "<init>", desc := "()V" } : Jvm.MethodName) prog_1_method_25_code (2 : Nat) (Option.none : Option Jvm.ClassFile.FieldType)) ∈ lw_all := lw_g (lw_at lw_m3 41 rfl) rfl
theorem q590 : (Jvm.Cond.methodLink "LiarClocks" (238 : Nat) ({ cls := "java/lang/Object", name := "<init>", desc := "()V" } : Jvm.MethodName)) ∈ lw_all := lw_g (lw_at lw_m3 42 rfl) rfl
theorem q591 : (Jvm.Cond.classLink "LiarClocks" (29 : Nat) "LiarClocks$House") ∈ lw_all := lw_g (lw_at lw_m3 43 rfl) rfl
theorem q592 : (Jvm.Cond.methodLinkNest "LiarClocks" (241 : Nat) ({ cls := "LiarClocks$House", name := "<init>", desc := "()V" } : Jvm.MethodName) "LiarClocks") ∈ lw_tbl := lw_at lw_m3 44 rfl
theorem q594 : (Jvm.Cond.fieldLink "LiarClocks" (74 : Nat) "LiarClocks" "now" "LLiarClocks$House;") ∈ lw_all := lw_g (lw_at lw_m3 46 rfl) rfl
theorem q595 : (Jvm.Cond.fieldLink "LiarClocks" (207 : Nat) "LiarClocks" "trial" "LLiarClocks$House;") ∈ lw_all := lw_g (lw_at lw_m3 47 rfl) rfl
theorem q596 : (Jvm.Cond.fieldLink "LiarClocks" (298 : Nat) "LiarClocks" "seed" "I") ∈ lw_all := lw_g (lw_at lw_m3 48 rfl) rfl
theorem q597 : (Jvm.Cond.fieldLink "LiarClocks" (7 : Nat) "LiarClocks" "heard" "[I") ∈ lw_all := lw_g (lw_at lw_m3 49 rfl) rfl
theorem q598 : (Jvm.Cond.fieldLink "LiarClocks" (1 : Nat) "LiarClocks" "heardMany" "I") ∈ lw_all := lw_g (lw_at lw_m3 50 rfl) rfl
theorem q599 : (Jvm.Cond.fieldLink "LiarClocks" (47 : Nat) "LiarClocks" "next" "[I") ∈ lw_all := lw_g (lw_at lw_m3 51 rfl) rfl
theorem q601 : (Jvm.Cond.fieldLink "LiarClocks" (127 : Nat) "LiarClocks" "text" "[B") ∈ lw_all := lw_g (lw_at lw_m3 53 rfl) rfl
theorem q603 : (Jvm.Cond.fieldLink "LiarClocks" (123 : Nat) "LiarClocks" "texted" "I") ∈ lw_all := lw_g (lw_at lw_m3 55 rfl) rfl
theorem q604 : (Jvm.Cond.fieldLink "LiarClocks" (131 : Nat) "LiarClocks" "faultPlace" "I") ∈ lw_all := lw_g (lw_at lw_m3 56 rfl) rfl
theorem q605 : (Jvm.Cond.fieldLink "LiarClocks" (242 : Nat) "LiarClocks" "past" "[LLiarClocks$House;") ∈ lw_all := lw_g (lw_at lw_m3 57 rfl) rfl
theorem q606 : (Jvm.Cond.fieldLink "LiarClocks" (258 : Nat) "LiarClocks" "pastLast" "I") ∈ lw_all := lw_g (lw_at lw_m3 58 rfl) rfl
theorem q607 : (Jvm.Cond.fieldLink "LiarClocks" (163 : Nat) "LiarClocks" "pastMany" "I") ∈ lw_all := lw_g (lw_at lw_m3 59 rfl) rfl
theorem q608 : (Jvm.Cond.fieldLink "LiarClocks" (289 : Nat) "LiarClocks" "rungLast" "I") ∈ lw_all := lw_g (lw_at lw_m3 60 rfl) rfl
theorem q609 : (Jvm.Cond.fieldLink "LiarClocks" (160 : Nat) "LiarClocks" "booked" "I") ∈ lw_all := lw_g (lw_at lw_m3 61 rfl) rfl
theorem q610 : (Jvm.Cond.fieldLink "LiarClocks" (246 : Nat) "LiarClocks" "bookOf" "[I") ∈ lw_all := lw_g (lw_at lw_m3 62 rfl) rfl
theorem q611 : (Jvm.Cond.fieldLink "LiarClocks" (249 : Nat) "LiarClocks" "bookIs" "[I") ∈ lw_all := lw_g (lw_at lw_m3 63 rfl) rfl
theorem q612 : (Jvm.Cond.fieldLink "LiarClocks" (252 : Nat) "LiarClocks" "images" "[LLiarClocks$House;") ∈ lw_all := lw_g (lw_at lw_m3 64 rfl) rfl
theorem q613 : (Jvm.Cond.fieldLink "LiarClocks" (255 : Nat) "LiarClocks" "imageSeed" "[I") ∈ lw_all := lw_g (lw_at lw_m3 65 rfl) rfl
theorem q614 : (Jvm.Cond.fieldLink "LiarClocks" (166 : Nat) "LiarClocks" "kept" "[Z") ∈ lw_all := lw_g (lw_at lw_m3 66 rfl) rfl
theorem q615 : (Jvm.Cond.laysFinal "LiarClocks" "LiarClocks" "now" "LLiarClocks$House;") ∈ lw_all := lw_g (lw_at lw_m3 67 rfl) rfl
theorem q616 : (Jvm.Cond.soleField "LiarClocks" "now") ∈ lw_all := lw_g (lw_at lw_m3 68 rfl) rfl
theorem q617 : (Jvm.Cond.laysFinal "LiarClocks" "LiarClocks" "trial" "LLiarClocks$House;") ∈ lw_all := lw_g (lw_at lw_m3 69 rfl) rfl
theorem q618 : (Jvm.Cond.soleField "LiarClocks" "trial") ∈ lw_all := lw_g (lw_at lw_m3 70 rfl) rfl
theorem q619 : (Jvm.Cond.lays "LiarClocks" "LiarClocks" "seed" "I") ∈ lw_all := lw_g (lw_at lw_m3 71 rfl) rfl
theorem q620 : (Jvm.Cond.soleField "LiarClocks" "seed") ∈ lw_all := lw_g (lw_at lw_m3 72 rfl) rfl
theorem q621 : (Jvm.Cond.laysFinal "LiarClocks" "LiarClocks" "heard" "[I") ∈ lw_all := lw_g (lw_at lw_m3 73 rfl) rfl
theorem q622 : (Jvm.Cond.soleField "LiarClocks" "heard") ∈ lw_all := lw_g (lw_at lw_m3 74 rfl) rfl
theorem q623 : (Jvm.Cond.lays "LiarClocks" "LiarClocks" "heardMany" "I") ∈ lw_all := lw_g (lw_at lw_m3 75 rfl) rfl
theorem q624 : (Jvm.Cond.soleField "LiarClocks" "heardMany") ∈ lw_all := lw_g (lw_at lw_m3 76 rfl) rfl
theorem q625 : (Jvm.Cond.laysFinal "LiarClocks" "LiarClocks" "next" "[I") ∈ lw_all := lw_g (lw_at lw_m3 77 rfl) rfl
theorem q626 : (Jvm.Cond.soleField "LiarClocks" "next") ∈ lw_all := lw_g (lw_at lw_m3 78 rfl) rfl
theorem q627 : (Jvm.Cond.laysFinal "LiarClocks" "LiarClocks" "text" "[B") ∈ lw_all := lw_g (lw_at lw_m3 79 rfl) rfl
theorem q628 : (Jvm.Cond.soleField "LiarClocks" "text") ∈ lw_all := lw_g (lw_at lw_m3 80 rfl) rfl
theorem q629 : (Jvm.Cond.lays "LiarClocks" "LiarClocks" "texted" "I") ∈ lw_all := lw_g (lw_at lw_m3 81 rfl) rfl
theorem q630 : (Jvm.Cond.soleField "LiarClocks" "texted") ∈ lw_all := lw_g (lw_at lw_m3 82 rfl) rfl
theorem q631 : (Jvm.Cond.lays "LiarClocks" "LiarClocks" "faultPlace" "I") ∈ lw_all := lw_g (lw_at lw_m3 83 rfl) rfl
theorem q632 : (Jvm.Cond.soleField "LiarClocks" "faultPlace") ∈ lw_all := lw_g (lw_at lw_m3 84 rfl) rfl
theorem q633 : (Jvm.Cond.laysFinal "LiarClocks" "LiarClocks" "past" "[LLiarClocks$House;") ∈ lw_all := lw_g (lw_at lw_m3 85 rfl) rfl
theorem q634 : (Jvm.Cond.soleField "LiarClocks" "past") ∈ lw_all := lw_g (lw_at lw_m3 86 rfl) rfl
theorem q635 : (Jvm.Cond.lays "LiarClocks" "LiarClocks" "pastLast" "I") ∈ lw_all := lw_g (lw_at lw_m3 87 rfl) rfl
theorem q636 : (Jvm.Cond.soleField "LiarClocks" "pastLast") ∈ lw_all := lw_g (lw_at lw_m3 88 rfl) rfl
theorem q637 : (Jvm.Cond.lays "LiarClocks" "LiarClocks" "pastMany" "I") ∈ lw_all := lw_g (lw_at lw_m3 89 rfl) rfl
theorem q638 : (Jvm.Cond.soleField "LiarClocks" "pastMany") ∈ lw_all := lw_g (lw_at lw_m3 90 rfl) rfl
theorem q639 : (Jvm.Cond.lays "LiarClocks" "LiarClocks" "rungLast" "I") ∈ lw_all := lw_g (lw_at lw_m3 91 rfl) rfl
theorem q640 : (Jvm.Cond.soleField "LiarClocks" "rungLast") ∈ lw_all := lw_g (lw_at lw_m3 92 rfl) rfl
theorem q641 : (Jvm.Cond.lays "LiarClocks" "LiarClocks" "booked" "I") ∈ lw_all := lw_g (lw_at lw_m3 93 rfl) rfl
theorem q642 : (Jvm.Cond.soleField "LiarClocks" "booked") ∈ lw_all := lw_g (lw_at lw_m3 94 rfl) rfl
theorem q643 : (Jvm.Cond.laysFinal "LiarClocks" "LiarClocks" "bookOf" "[I") ∈ lw_all := lw_g (lw_at lw_m3 95 rfl) rfl
theorem q644 : (Jvm.Cond.soleField "LiarClocks" "bookOf") ∈ lw_all := lw_g (lw_at lw_m3 96 rfl) rfl
theorem q645 : (Jvm.Cond.laysFinal "LiarClocks" "LiarClocks" "bookIs" "[I") ∈ lw_all := lw_g (lw_at lw_m3 97 rfl) rfl
theorem q646 : (Jvm.Cond.soleField "LiarClocks" "bookIs") ∈ lw_all := lw_g (lw_at lw_m3 98 rfl) rfl
theorem q647 : (Jvm.Cond.laysFinal "LiarClocks" "LiarClocks" "images" "[LLiarClocks$House;") ∈ lw_all := lw_g (lw_at lw_m3 99 rfl) rfl
theorem q648 : (Jvm.Cond.soleField "LiarClocks" "images") ∈ lw_all := lw_g (lw_at lw_m3 100 rfl) rfl
theorem q649 : (Jvm.Cond.laysFinal "LiarClocks" "LiarClocks" "imageSeed" "[I") ∈ lw_all := lw_g (lw_at lw_m3 101 rfl) rfl
theorem q650 : (Jvm.Cond.soleField "LiarClocks" "imageSeed") ∈ lw_all := lw_g (lw_at lw_m3 102 rfl) rfl
theorem q651 : (Jvm.Cond.laysFinal "LiarClocks" "LiarClocks" "kept" "[Z") ∈ lw_all := lw_g (lw_at lw_m3 103 rfl) rfl
theorem q652 : (Jvm.Cond.soleField "LiarClocks" "kept") ∈ lw_all := lw_g (lw_at lw_m3 104 rfl) rfl
theorem q653 : (Jvm.Cond.superclass "LiarClocks" "java/lang/Object") ∈ lw_all := lw_g (lw_at lw_m3 105 rfl) rfl
theorem q655 : (Jvm.Cond.instanceMethod ({ cls := "LiarClocks", name := "tick", desc := "(I)I" } : Jvm.MethodName)) ∈ lw_all := lw_g (lw_at lw_m3 107 rfl) rfl
theorem q656 : (Jvm.Cond.selects "LiarClocks" ({ cls := "LiarClocks", name := "tick", desc := "(I)I" } : Jvm.MethodName) ({ cls := "LiarClocks", name := "tick", desc := "(I)I" } : Jvm.MethodName)) ∈ lw_all := lw_g (lw_at lw_m3 108 rfl) rfl
theorem q657 : (Jvm.Cond.code ({ cls := "LiarClocks", name := "tick", desc := "(I)I" } : Jvm.MethodName) prog_1_method_27_code (4 : Nat) (Option.some Jvm.ClassFile.FieldType.int)) ∈ lw_all := lw_g (lw_at lw_m3 109 rfl) rfl
theorem q658 : (Jvm.Cond.constantLong "LiarClocks" (261 : Nat) (20 : Int64)) ∈ lw_all := lw_g (lw_at lw_m3 110 rfl) rfl
theorem q659 : (Jvm.Cond.methodLink "LiarClocks" (263 : Nat) ({ cls := "LiarClocks", name := "remember", desc := "()V" } : Jvm.MethodName)) ∈ lw_all := lw_g (lw_at lw_m3 111 rfl) rfl
theorem q660 : (Jvm.Cond.privateMethod ({ cls := "LiarClocks", name := "remember", desc := "()V" } : Jvm.MethodName)) ∈ lw_tbl := lw_at lw_m3 112 rfl
theorem q661 : (Jvm.Cond.instanceMethod ({ cls := "LiarClocks", name := "remember", desc := "()V" } : Jvm.MethodName)) ∈ lw_all := lw_g (lw_at lw_m3 113 rfl) rfl
theorem q662 : (Jvm.Cond.code ({ cls := "LiarClocks", name := "remember", desc := "()V" } : Jvm.MethodName) prog_1_method_26_code (1 : Nat) (Option.none : Option Jvm.ClassFile.FieldType)) ∈ lw_all := lw_g (lw_at lw_m3 114 rfl) rfl
theorem q663 : (Jvm.Cond.methodLink "LiarClocks" (266 : Nat) ({ cls := "LiarClocks$House", name := "tickOnce", desc := "()I" } : Jvm.MethodName)) ∈ lw_all := lw_g (lw_at lw_m3 115 rfl) rfl
theorem q676 : (Jvm.Cond.instanceMethod ({ cls := "LiarClocks", name := "round", desc := "()I" } : Jvm.MethodName)) ∈ lw_all := lw_g (lw_at lw_m3 128 rfl) rfl
theorem q677 : (Jvm.Cond.selects "LiarClocks" ({ cls := "LiarClocks", name := "round", desc := "()I" } : Jvm.MethodName) ({ cls := "LiarClocks", name := "round", desc := "()I" } : Jvm.MethodName)) ∈ lw_all := lw_g (lw_at lw_m3 129 rfl) rfl
theorem q678 : (Jvm.Cond.code ({ cls := "LiarClocks", name := "round", desc := "()I" } : Jvm.MethodName) prog_1_method_28_code (1 : Nat) (Option.some Jvm.ClassFile.FieldType.int)) ∈ lw_all := lw_g (lw_at lw_m3 130 rfl) rfl
theorem q679 : (Jvm.Cond.methodLink "LiarClocks" (269 : Nat) ({ cls := "LiarClocks", name := "roundIn", desc := "(LLiarClocks$House;)V" } : Jvm.MethodName)) ∈ lw_all := lw_g (lw_at lw_m3 131 rfl) rfl
theorem q680 : (Jvm.Cond.privateMethod ({ cls := "LiarClocks", name := "roundIn", desc := "(LLiarClocks$House;)V" } : Jvm.MethodName)) ∈ lw_tbl := lw_at lw_m3 132 rfl
theorem q681 : (Jvm.Cond.instanceMethod ({ cls := "LiarClocks", name := "roundIn", desc := "(LLiarClocks$House;)V" } : Jvm.MethodName)) ∈ lw_all := lw_g (lw_at lw_m3 133 rfl) rfl
theorem q682 : (Jvm.Cond.codeWith ({ cls := "LiarClocks", name := "roundIn", desc := "(LLiarClocks$House;)V" } : Jvm.MethodName) prog_1_method_5_code (3 : Nat) (Option.none : Option Jvm.ClassFile.FieldType) [((0 : Nat), (69 : Nat), (72 : Nat), (11 : Nat))]) ∈ lw_all := lw_g (lw_at lw_m3 134 rfl) rfl
theorem q683 : (Jvm.Cond.methodLink "LiarClocks" (64 : Nat) ({ cls := "java/lang/System", name := "arraycopy", desc := "(Ljava/lang/Object;ILjava/lang/Object;II)V" } : Jvm.MethodName)) ∈ lw_all := lw_g (lw_at lw_m3 135 rfl) rfl
theorem q684 : (Jvm.Cond.methodLink "LiarClocks" (70 : Nat) ({ cls := "LiarClocks$Struck", name := "isForWant", desc := "()Z" } : Jvm.MethodName)) ∈ lw_all := lw_g (lw_at lw_m3 136 rfl) rfl
theorem q693 : (Jvm.Cond.instanceMethod ({ cls := "LiarClocks", name := "lie", desc := "(III)I" } : Jvm.MethodName)) ∈ lw_all := lw_g (lw_at lw_m3 145 rfl) rfl
theorem q694 : (Jvm.Cond.selects "LiarClocks" ({ cls := "LiarClocks", name := "lie", desc := "(III)I" } : Jvm.MethodName) ({ cls := "LiarClocks", name := "lie", desc := "(III)I" } : Jvm.MethodName)) ∈ lw_all := lw_g (lw_at lw_m3 146 rfl) rfl
theorem q695 : (Jvm.Cond.code ({ cls := "LiarClocks", name := "lie", desc := "(III)I" } : Jvm.MethodName) prog_1_method_29_code (5 : Nat) (Option.some Jvm.ClassFile.FieldType.int)) ∈ lw_all := lw_g (lw_at lw_m3 147 rfl) rfl
theorem q696 : (Jvm.Cond.constantLong "LiarClocks" (272 : Nat) (-9999 : Int64)) ∈ lw_all := lw_g (lw_at lw_m3 148 rfl) rfl
theorem q697 : (Jvm.Cond.constantLong "LiarClocks" (274 : Nat) (9999 : Int64)) ∈ lw_all := lw_g (lw_at lw_m3 149 rfl) rfl
theorem q699 : (Jvm.Cond.instanceMethod ({ cls := "LiarClocks", name := "error", desc := "(III)I" } : Jvm.MethodName)) ∈ lw_all := lw_g (lw_at lw_m3 151 rfl) rfl
theorem q700 : (Jvm.Cond.selects "LiarClocks" ({ cls := "LiarClocks", name := "error", desc := "(III)I" } : Jvm.MethodName) ({ cls := "LiarClocks", name := "error", desc := "(III)I" } : Jvm.MethodName)) ∈ lw_all := lw_g (lw_at lw_m3 152 rfl) rfl
theorem q701 : (Jvm.Cond.code ({ cls := "LiarClocks", name := "error", desc := "(III)I" } : Jvm.MethodName) prog_1_method_30_code (5 : Nat) (Option.some Jvm.ClassFile.FieldType.int)) ∈ lw_all := lw_g (lw_at lw_m3 153 rfl) rfl
theorem q702 : (Jvm.Cond.constantLong "LiarClocks" (276 : Nat) (-20 : Int64)) ∈ lw_all := lw_g (lw_at lw_m3 154 rfl) rfl
theorem q704 : (Jvm.Cond.instanceMethod ({ cls := "LiarClocks", name := "liar", desc := "(IZ)I" } : Jvm.MethodName)) ∈ lw_all := lw_g (lw_at lw_m3 156 rfl) rfl
theorem q705 : (Jvm.Cond.selects "LiarClocks" ({ cls := "LiarClocks", name := "liar", desc := "(IZ)I" } : Jvm.MethodName) ({ cls := "LiarClocks", name := "liar", desc := "(IZ)I" } : Jvm.MethodName)) ∈ lw_all := lw_g (lw_at lw_m3 157 rfl) rfl
theorem q706 : (Jvm.Cond.code ({ cls := "LiarClocks", name := "liar", desc := "(IZ)I" } : Jvm.MethodName) prog_1_method_31_code (3 : Nat) (Option.some Jvm.ClassFile.FieldType.int)) ∈ lw_all := lw_g (lw_at lw_m3 158 rfl) rfl
theorem q708 : (Jvm.Cond.instanceMethod ({ cls := "LiarClocks", name := "stand", desc := "(I)I" } : Jvm.MethodName)) ∈ lw_all := lw_g (lw_at lw_m3 160 rfl) rfl
theorem q709 : (Jvm.Cond.selects "LiarClocks" ({ cls := "LiarClocks", name := "stand", desc := "(I)I" } : Jvm.MethodName) ({ cls := "LiarClocks", name := "stand", desc := "(I)I" } : Jvm.MethodName)) ∈ lw_all := lw_g (lw_at lw_m3 161 rfl) rfl
theorem q710 : (Jvm.Cond.code ({ cls := "LiarClocks", name := "stand", desc := "(I)I" } : Jvm.MethodName) prog_1_method_32_code (2 : Nat) (Option.some Jvm.ClassFile.FieldType.int)) ∈ lw_all := lw_g (lw_at lw_m3 162 rfl) rfl
theorem q711 : (Jvm.Cond.constant "LiarClocks" (278 : Nat) (-1000000003 : Int32)) ∈ lw_all := lw_g (lw_at lw_m3 163 rfl) rfl
theorem q713 : (Jvm.Cond.instanceMethod ({ cls := "LiarClocks", name := "join", desc := "(I)I" } : Jvm.MethodName)) ∈ lw_all := lw_g (lw_at lw_m3 165 rfl) rfl
theorem q714 : (Jvm.Cond.selects "LiarClocks" ({ cls := "LiarClocks", name := "join", desc := "(I)I" } : Jvm.MethodName) ({ cls := "LiarClocks", name := "join", desc := "(I)I" } : Jvm.MethodName)) ∈ lw_all := lw_g (lw_at lw_m3 166 rfl) rfl
theorem q715 : (Jvm.Cond.codeWith ({ cls := "LiarClocks", name := "join", desc := "(I)I" } : Jvm.MethodName) prog_1_method_34_code (3 : Nat) (Option.some Jvm.ClassFile.FieldType.int) [((27 : Nat), (79 : Nat), (80 : Nat), (13 : Nat))]) ∈ lw_all := lw_g (lw_at lw_m3 167 rfl) rfl
theorem q716 : (Jvm.Cond.methodLink "LiarClocks" (283 : Nat) ({ cls := "LiarClocks", name := "joinedAt", desc := "(I)I" } : Jvm.MethodName)) ∈ lw_all := lw_g (lw_at lw_m3 168 rfl) rfl
theorem q717 : (Jvm.Cond.privateMethod ({ cls := "LiarClocks", name := "joinedAt", desc := "(I)I" } : Jvm.MethodName)) ∈ lw_tbl := lw_at lw_m3 169 rfl
theorem q718 : (Jvm.Cond.instanceMethod ({ cls := "LiarClocks", name := "joinedAt", desc := "(I)I" } : Jvm.MethodName)) ∈ lw_all := lw_g (lw_at lw_m3 170 rfl) rfl
theorem q719 : (Jvm.Cond.codeWith ({ cls := "LiarClocks", name := "joinedAt", desc := "(I)I" } : Jvm.MethodName) prog_1_method_33_code (4 : Nat) (Option.some Jvm.ClassFile.FieldType.int) [((54 : Nat), (65 : Nat), (66 : Nat), (11 : Nat))]) ∈ lw_all := lw_g (lw_at lw_m3 171 rfl) rfl
theorem q720 : (Jvm.Cond.methodLink "LiarClocks" (279 : Nat) ({ cls := "LiarClocks$Unheard", name := "initCause", desc := "(Ljava/lang/Throwable;)Ljava/lang/Throwable;" } : Jvm.MethodName)) ∈ lw_all := lw_g (lw_at lw_m3 172 rfl) rfl
theorem q723 : (Jvm.Cond.methodLinkNest "LiarClocks" (286 : Nat) ({ cls := "LiarClocks$House", name := "ring", desc := "()I" } : Jvm.MethodName) "LiarClocks") ∈ lw_tbl := lw_at lw_m3 175 rfl
theorem q724 : (Jvm.Cond.methodLink "LiarClocks" (292 : Nat) ({ cls := "LiarClocks$Unheard", name := "getCause", desc := "()Ljava/lang/Throwable;" } : Jvm.MethodName)) ∈ lw_all := lw_g (lw_at lw_m3 176 rfl) rfl
theorem q728 : (Jvm.Cond.instanceMethod ({ cls := "LiarClocks", name := "alarm", desc := "(II)I" } : Jvm.MethodName)) ∈ lw_all := lw_g (lw_at lw_m3 180 rfl) rfl
theorem q729 : (Jvm.Cond.selects "LiarClocks" ({ cls := "LiarClocks", name := "alarm", desc := "(II)I" } : Jvm.MethodName) ({ cls := "LiarClocks", name := "alarm", desc := "(II)I" } : Jvm.MethodName)) ∈ lw_all := lw_g (lw_at lw_m3 181 rfl) rfl
theorem q730 : (Jvm.Cond.code ({ cls := "LiarClocks", name := "alarm", desc := "(II)I" } : Jvm.MethodName) prog_1_method_35_code (4 : Nat) (Option.some Jvm.ClassFile.FieldType.int)) ∈ lw_all := lw_g (lw_at lw_m3 182 rfl) rfl
theorem q731 : (Jvm.Cond.constantLong "LiarClocks" (296 : Nat) (999999 : Int64)) ∈ lw_all := lw_g (lw_at lw_m3 183 rfl) rfl
theorem q733 : (Jvm.Cond.instanceMethod ({ cls := "LiarClocks", name := "drift", desc := "(I)I" } : Jvm.MethodName)) ∈ lw_all := lw_g (lw_at lw_m3 185 rfl) rfl
theorem q734 : (Jvm.Cond.selects "LiarClocks" ({ cls := "LiarClocks", name := "drift", desc := "(I)I" } : Jvm.MethodName) ({ cls := "LiarClocks", name := "drift", desc := "(I)I" } : Jvm.MethodName)) ∈ lw_all := lw_g (lw_at lw_m3 186 rfl) rfl
theorem q735 : (Jvm.Cond.code ({ cls := "LiarClocks", name := "drift", desc := "(I)I" } : Jvm.MethodName) prog_1_method_38_code (3 : Nat) (Option.some Jvm.ClassFile.FieldType.int)) ∈ lw_all := lw_g (lw_at lw_m3 187 rfl) rfl
theorem q736 : (Jvm.Cond.constantLong "LiarClocks" (310 : Nat) (16 : Int64)) ∈ lw_all := lw_g (lw_at lw_m3 188 rfl) rfl
theorem q737 : (Jvm.Cond.methodLink "LiarClocks" (312 : Nat) ({ cls := "LiarClocks", name := "chance", desc := "()V" } : Jvm.MethodName)) ∈ lw_all := lw_g (lw_at lw_m3 189 rfl) rfl
theorem q738 : (Jvm.Cond.privateMethod ({ cls := "LiarClocks", name := "chance", desc := "()V" } : Jvm.MethodName)) ∈ lw_tbl := lw_at lw_m3 190 rfl
theorem q739 : (Jvm.Cond.instanceMethod ({ cls := "LiarClocks", name := "chance", desc := "()V" } : Jvm.MethodName)) ∈ lw_all := lw_g (lw_at lw_m3 191 rfl) rfl
theorem q740 : (Jvm.Cond.code ({ cls := "LiarClocks", name := "chance", desc := "()V" } : Jvm.MethodName) prog_1_method_37_code (6 : Nat) (Option.none : Option Jvm.ClassFile.FieldType)) ∈ lw_all := lw_g (lw_at lw_m3 192 rfl) rfl
theorem q741 : (Jvm.Cond.methodLink "LiarClocks" (307 : Nat) ({ cls := "LiarClocks", name := "draw", desc := "(I)I" } : Jvm.MethodName)) ∈ lw_all := lw_g (lw_at lw_m3 193 rfl) rfl
theorem q742 : (Jvm.Cond.privateMethod ({ cls := "LiarClocks", name := "draw", desc := "(I)I" } : Jvm.MethodName)) ∈ lw_tbl := lw_at lw_m3 194 rfl
theorem q743 : (Jvm.Cond.instanceMethod ({ cls := "LiarClocks", name := "draw", desc := "(I)I" } : Jvm.MethodName)) ∈ lw_all := lw_g (lw_at lw_m3 195 rfl) rfl
theorem q744 : (Jvm.Cond.code ({ cls := "LiarClocks", name := "draw", desc := "(I)I" } : Jvm.MethodName) prog_1_method_36_code (2 : Nat) (Option.some Jvm.ClassFile.FieldType.int)) ∈ lw_all := lw_g (lw_at lw_m3 196 rfl) rfl
theorem q745 : (Jvm.Cond.constantLong "LiarClocks" (301 : Nat) (1103515245 : Int64)) ∈ lw_all := lw_g (lw_at lw_m3 197 rfl) rfl
theorem q746 : (Jvm.Cond.constantLong "LiarClocks" (303 : Nat) (12345 : Int64)) ∈ lw_all := lw_g (lw_at lw_m3 198 rfl) rfl
theorem q747 : (Jvm.Cond.constantLong "LiarClocks" (305 : Nat) (2147483647 : Int64)) ∈ lw_all := lw_g (lw_at lw_m3 199 rfl) rfl
theorem q749 : (Jvm.Cond.instanceMethod ({ cls := "LiarClocks", name := "undo", desc := "(I)I" } : Jvm.MethodName)) ∈ lw_all := lw_g (lw_at lw_m3 201 rfl) rfl
theorem q750 : (Jvm.Cond.selects "LiarClocks" ({ cls := "LiarClocks", name := "undo", desc := "(I)I" } : Jvm.MethodName) ({ cls := "LiarClocks", name := "undo", desc := "(I)I" } : Jvm.MethodName)) ∈ lw_all := lw_g (lw_at lw_m3 202 rfl) rfl
theorem q751 : (Jvm.Cond.code ({ cls := "LiarClocks", name := "undo", desc := "(I)I" } : Jvm.MethodName) prog_1_method_39_code (3 : Nat) (Option.some Jvm.ClassFile.FieldType.int)) ∈ lw_all := lw_g (lw_at lw_m3 203 rfl) rfl
theorem q753 : (Jvm.Cond.instanceMethod ({ cls := "LiarClocks", name := "behind", desc := "(I)I" } : Jvm.MethodName)) ∈ lw_all := lw_g (lw_at lw_m3 205 rfl) rfl
theorem q754 : (Jvm.Cond.selects "LiarClocks" ({ cls := "LiarClocks", name := "behind", desc := "(I)I" } : Jvm.MethodName) ({ cls := "LiarClocks", name := "behind", desc := "(I)I" } : Jvm.MethodName)) ∈ lw_all := lw_g (lw_at lw_m3 206 rfl) rfl
theorem q755 : (Jvm.Cond.code ({ cls := "LiarClocks", name := "behind", desc := "(I)I" } : Jvm.MethodName) prog_1_method_40_code (3 : Nat) (Option.some Jvm.ClassFile.FieldType.int)) ∈ lw_all := lw_g (lw_at lw_m3 207 rfl) rfl
theorem q757 : (Jvm.Cond.instanceMethod ({ cls := "LiarClocks", name := "within", desc := "(I)I" } : Jvm.MethodName)) ∈ lw_all := lw_g (lw_at lw_m3 209 rfl) rfl
theorem q758 : (Jvm.Cond.selects "LiarClocks" ({ cls := "LiarClocks", name := "within", desc := "(I)I" } : Jvm.MethodName) ({ cls := "LiarClocks", name := "within", desc := "(I)I" } : Jvm.MethodName)) ∈ lw_all := lw_g (lw_at lw_m3 210 rfl) rfl
theorem q759 : (Jvm.Cond.code ({ cls := "LiarClocks", name := "within", desc := "(I)I" } : Jvm.MethodName) prog_1_method_41_code (3 : Nat) (Option.some Jvm.ClassFile.FieldType.int)) ∈ lw_all := lw_g (lw_at lw_m3 211 rfl) rfl
theorem q761 : (Jvm.Cond.instanceMethod ({ cls := "LiarClocks", name := "write", desc := "(II)I" } : Jvm.MethodName)) ∈ lw_all := lw_g (lw_at lw_m3 213 rfl) rfl
theorem q762 : (Jvm.Cond.selects "LiarClocks" ({ cls := "LiarClocks", name := "write", desc := "(II)I" } : Jvm.MethodName) ({ cls := "LiarClocks", name := "write", desc := "(II)I" } : Jvm.MethodName)) ∈ lw_all := lw_g (lw_at lw_m3 214 rfl) rfl
theorem q763 : (Jvm.Cond.code ({ cls := "LiarClocks", name := "write", desc := "(II)I" } : Jvm.MethodName) prog_1_method_42_code (3 : Nat) (Option.some Jvm.ClassFile.FieldType.int)) ∈ lw_all := lw_g (lw_at lw_m3 215 rfl) rfl
theorem q765 : (Jvm.Cond.instanceMethod ({ cls := "LiarClocks", name := "tear", desc := "()I" } : Jvm.MethodName)) ∈ lw_all := lw_g (lw_at lw_m3 217 rfl) rfl
theorem q766 : (Jvm.Cond.selects "LiarClocks" ({ cls := "LiarClocks", name := "tear", desc := "()I" } : Jvm.MethodName) ({ cls := "LiarClocks", name := "tear", desc := "()I" } : Jvm.MethodName)) ∈ lw_all := lw_g (lw_at lw_m3 218 rfl) rfl
theorem q767 : (Jvm.Cond.code ({ cls := "LiarClocks", name := "tear", desc := "()I" } : Jvm.MethodName) prog_1_method_44_code (2 : Nat) (Option.some Jvm.ClassFile.FieldType.int)) ∈ lw_all := lw_g (lw_at lw_m3 219 rfl) rfl
theorem q769 : (Jvm.Cond.instanceMethod ({ cls := "LiarClocks", name := "seed", desc := "(I)I" } : Jvm.MethodName)) ∈ lw_all := lw_g (lw_at lw_m3 221 rfl) rfl
theorem q770 : (Jvm.Cond.selects "LiarClocks" ({ cls := "LiarClocks", name := "seed", desc := "(I)I" } : Jvm.MethodName) ({ cls := "LiarClocks", name := "seed", desc := "(I)I" } : Jvm.MethodName)) ∈ lw_all := lw_g (lw_at lw_m3 222 rfl) rfl
theorem q771 : (Jvm.Cond.code ({ cls := "LiarClocks", name := "seed", desc := "(I)I" } : Jvm.MethodName) prog_1_method_45_code (3 : Nat) (Option.some Jvm.ClassFile.FieldType.int)) ∈ lw_all := lw_g (lw_at lw_m3 223 rfl) rfl
theorem q773 : (Jvm.Cond.instanceMethod ({ cls := "LiarClocks", name := "keep", desc := "(I)I" } : Jvm.MethodName)) ∈ lw_all := lw_g (lw_at lw_m3 225 rfl) rfl
theorem q774 : (Jvm.Cond.selects "LiarClocks" ({ cls := "LiarClocks", name := "keep", desc := "(I)I" } : Jvm.MethodName) ({ cls := "LiarClocks", name := "keep", desc := "(I)I" } : Jvm.MethodName)) ∈ lw_all := lw_g (lw_at lw_m3 226 rfl) rfl
theorem q775 : (Jvm.Cond.code ({ cls := "LiarClocks", name := "keep", desc := "(I)I" } : Jvm.MethodName) prog_1_method_46_code (2 : Nat) (Option.some Jvm.ClassFile.FieldType.int)) ∈ lw_all := lw_g (lw_at lw_m3 227 rfl) rfl
theorem q777 : (Jvm.Cond.instanceMethod ({ cls := "LiarClocks", name := "goBack", desc := "(I)I" } : Jvm.MethodName)) ∈ lw_all := lw_g (lw_at lw_m3 229 rfl) rfl
theorem q778 : (Jvm.Cond.selects "LiarClocks" ({ cls := "LiarClocks", name := "goBack", desc := "(I)I" } : Jvm.MethodName) ({ cls := "LiarClocks", name := "goBack", desc := "(I)I" } : Jvm.MethodName)) ∈ lw_all := lw_g (lw_at lw_m3 230 rfl) rfl
theorem q779 : (Jvm.Cond.code ({ cls := "LiarClocks", name := "goBack", desc := "(I)I" } : Jvm.MethodName) prog_1_method_47_code (2 : Nat) (Option.some Jvm.ClassFile.FieldType.int)) ∈ lw_all := lw_g (lw_at lw_m3 231 rfl) rfl
theorem in_X0 : ∀ w ∈ wsX00, w ∈ lw_all := lw_in wsX00 [615, 617, 619, 621, 623, 625, 627, 629, 631, 633, 635, 637, 639, 641, 643, 645, 647, 649, 651] (by decide +kernel) (by decide +kernel)
