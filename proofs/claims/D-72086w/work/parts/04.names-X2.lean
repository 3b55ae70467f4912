/-! LiarClocksModel -/
set_option maxRecDepth 100000
def RX2 : String := "LiarClocksModel"
def TX2 : u_T := fun k => match k with
  | 0 => ("LiarClocksModel", "w", "[I", true)
  | 1 => ("LiarClocksModel", "known", "I", false)
  | 2 => ("LiarClocksModel", "kept", "I", false)
  | 3 => ("LiarClocksModel", "text", "[I", true)
  | 4 => ("LiarClocksModel", "size", "I", false)
  | 5 => ("LiarClocksModel", "fault", "I", false)
  | 6 => ("LiarClocksModel", "bookOf", "[I", true)
  | 7 => ("LiarClocksModel", "bookAim", "[I", true)
  | 8 => ("LiarClocksModel", "written", "I", false)
  | 9 => ("LiarClocksModel", "order", "[I", true)
  | 10 => ("LiarClocksModel", "next", "[I", true)
  | 11 => ("LiarClocksModel", "at", "I", false)
  | 12 => ("LiarClocksModel", "wrong", "I", false)
  | 13 => ("LiarClocksModel", "place", "I", false)
  | 14 => ("LiarClocksModel", "from", "I", false)
  | 15 => ("LiarClocksModel", "toldF", "I", false)
  | _ => ("LiarClocksModel", "toldS", "I", false)
def tyX2 : Nat → FieldType := fun k => match k with
  | 0 => .array .int
  | 1 => .int
  | 2 => .int
  | 3 => .array .int
  | 4 => .int
  | 5 => .int
  | 6 => .array .int
  | 7 => .array .int
  | 8 => .int
  | 9 => .array .int
  | 10 => .array .int
  | 11 => .int
  | 12 => .int
  | 13 => .int
  | 14 => .int
  | 15 => .int
  | _ => .int
abbrev wsX20 : List Cond := u_ws RX2 TX2 17
set_option maxRecDepth 100000 in
theorem nmX2 : ∀ a, a < 17 → ∀ b, b < 17 → a ≠ b → (TX2 a).2.1 ≠ (TX2 b).2.1 := by decide +kernel
set_option maxRecDepth 100000 in
theorem tyX2_ok : ∀ k, k < 17 → parseFieldDescriptor (TX2 k).2.2.1 = some (tyX2 k) := by decide +kernel
abbrev cX2_init : ByteArray := prog_12_method_1_code
def yX2_init : MethodName := ⟨RX2, "<init>", "()V"⟩
def dkwX2_init_2 : List UInt8 := [181, 0, 26, 42, 16, 8, 188, 10, 181, 0, 29, 42, 180, 0, 7, 5, 16, 10, 79, 177]
abbrev dktX2_init_2 : List UInt8 := dkwX2_init_2 ++ []
def dkwX2_init_1 : List UInt8 := [181, 0, 16, 42, 16, 20, 188, 10, 181, 0, 20, 42, 16, 20, 188, 10, 181, 0, 23, 42, 16, 8, 188, 10]
abbrev dktX2_init_1 : List UInt8 := dkwX2_init_1 ++ dktX2_init_2
def dkwX2_init_0 : List UInt8 := [42, 183, 0, 1, 42, 17, 15, 0, 188, 10, 181, 0, 7, 42, 17, 0, 200, 188, 10, 181, 0, 13, 42, 2]
abbrev dktX2_init_0 : List UInt8 := dkwX2_init_0 ++ dktX2_init_1
theorem dksX2_init_0 : cX2_init.data.toList.drop 0 = dktX2_init_0 := by decide +kernel
theorem dksX2_init_1 : cX2_init.data.toList.drop 24 = dktX2_init_1 := dk_seg dksX2_init_0 24 rfl rfl
theorem dksX2_init_2 : cX2_init.data.toList.drop 48 = dktX2_init_2 := dk_seg dksX2_init_1 24 rfl rfl
theorem dX2_init_0 : decode cX2_init 0 = .ok (.aload_n 0, 1) := dk_42 (dk_at dksX2_init_0 0 rfl rfl)
theorem dX2_init_1 : decode cX2_init 1 = .ok (.invokespecial 1, 3) := dk_183 0 1 (dk_at dksX2_init_0 1 rfl rfl)
theorem dX2_init_4 : decode cX2_init 4 = .ok (.aload_n 0, 1) := dk_42 (dk_at dksX2_init_0 4 rfl rfl)
theorem dX2_init_5 : decode cX2_init 5 = .ok (.sipush 3840, 3) := dk_17 15 0 (dk_at dksX2_init_0 5 rfl rfl)
theorem dX2_init_8 : decode cX2_init 8 = .ok (.newarray .int, 2) := dk_188_10 (dk_at dksX2_init_0 8 rfl rfl)
theorem dX2_init_10 : decode cX2_init 10 = .ok (.putfield 7, 3) := dk_181 0 7 (dk_at dksX2_init_0 10 rfl rfl)
theorem dX2_init_13 : decode cX2_init 13 = .ok (.aload_n 0, 1) := dk_42 (dk_at dksX2_init_0 13 rfl rfl)
theorem dX2_init_14 : decode cX2_init 14 = .ok (.sipush 200, 3) := dk_17 0 200 (dk_at dksX2_init_0 14 rfl rfl)
theorem dX2_init_17 : decode cX2_init 17 = .ok (.newarray .int, 2) := dk_188_10 (dk_at dksX2_init_0 17 rfl rfl)
theorem dX2_init_19 : decode cX2_init 19 = .ok (.putfield 13, 3) := dk_181 0 13 (dk_at dksX2_init_0 19 rfl rfl)
theorem dX2_init_22 : decode cX2_init 22 = .ok (.aload_n 0, 1) := dk_42 (dk_at dksX2_init_0 22 rfl rfl)
theorem dX2_init_23 : decode cX2_init 23 = .ok (.iconst (-1), 1) := dk_2 (dk_at dksX2_init_0 23 rfl rfl)
theorem dX2_init_24 : decode cX2_init 24 = .ok (.putfield 16, 3) := dk_181 0 16 (dk_at dksX2_init_1 0 rfl rfl)
theorem dX2_init_27 : decode cX2_init 27 = .ok (.aload_n 0, 1) := dk_42 (dk_at dksX2_init_1 3 rfl rfl)
theorem dX2_init_28 : decode cX2_init 28 = .ok (.bipush 20, 2) := dk_16 20 (dk_at dksX2_init_1 4 rfl rfl)
theorem dX2_init_30 : decode cX2_init 30 = .ok (.newarray .int, 2) := dk_188_10 (dk_at dksX2_init_1 6 rfl rfl)
theorem dX2_init_32 : decode cX2_init 32 = .ok (.putfield 20, 3) := dk_181 0 20 (dk_at dksX2_init_1 8 rfl rfl)
theorem dX2_init_35 : decode cX2_init 35 = .ok (.aload_n 0, 1) := dk_42 (dk_at dksX2_init_1 11 rfl rfl)
theorem dX2_init_36 : decode cX2_init 36 = .ok (.bipush 20, 2) := dk_16 20 (dk_at dksX2_init_1 12 rfl rfl)
theorem dX2_init_38 : decode cX2_init 38 = .ok (.newarray .int, 2) := dk_188_10 (dk_at dksX2_init_1 14 rfl rfl)
theorem dX2_init_40 : decode cX2_init 40 = .ok (.putfield 23, 3) := dk_181 0 23 (dk_at dksX2_init_1 16 rfl rfl)
theorem dX2_init_43 : decode cX2_init 43 = .ok (.aload_n 0, 1) := dk_42 (dk_at dksX2_init_1 19 rfl rfl)
theorem dX2_init_44 : decode cX2_init 44 = .ok (.bipush 8, 2) := dk_16 8 (dk_at dksX2_init_1 20 rfl rfl)
theorem dX2_init_46 : decode cX2_init 46 = .ok (.newarray .int, 2) := dk_188_10 (dk_at dksX2_init_1 22 rfl rfl)
theorem dX2_init_48 : decode cX2_init 48 = .ok (.putfield 26, 3) := dk_181 0 26 (dk_at dksX2_init_2 0 rfl rfl)
theorem dX2_init_51 : decode cX2_init 51 = .ok (.aload_n 0, 1) := dk_42 (dk_at dksX2_init_2 3 rfl rfl)
theorem dX2_init_52 : decode cX2_init 52 = .ok (.bipush 8, 2) := dk_16 8 (dk_at dksX2_init_2 4 rfl rfl)
theorem dX2_init_54 : decode cX2_init 54 = .ok (.newarray .int, 2) := dk_188_10 (dk_at dksX2_init_2 6 rfl rfl)
theorem dX2_init_56 : decode cX2_init 56 = .ok (.putfield 29, 3) := dk_181 0 29 (dk_at dksX2_init_2 8 rfl rfl)
theorem dX2_init_59 : decode cX2_init 59 = .ok (.aload_n 0, 1) := dk_42 (dk_at dksX2_init_2 11 rfl rfl)
theorem dX2_init_60 : decode cX2_init 60 = .ok (.getfield 7, 3) := dk_180 0 7 (dk_at dksX2_init_2 12 rfl rfl)
theorem dX2_init_63 : decode cX2_init 63 = .ok (.iconst 2, 1) := dk_5 (dk_at dksX2_init_2 15 rfl rfl)
theorem dX2_init_64 : decode cX2_init 64 = .ok (.bipush 10, 2) := dk_16 10 (dk_at dksX2_init_2 16 rfl rfl)
theorem dX2_init_66 : decode cX2_init 66 = .ok (.iastore, 1) := dk_79 (dk_at dksX2_init_2 18 rfl rfl)
theorem dX2_init_67 : decode cX2_init 67 = .ok (.return_, 1) := dk_177 (dk_at dksX2_init_2 19 rfl rfl)
abbrev cX2_feed : ByteArray := prog_12_method_10_code
def yX2_feed : MethodName := ⟨RX2, "feed", "(I)I"⟩
def dkwX2_feed_2 : List UInt8 := [180, 0, 37, 172]
abbrev dktX2_feed_2 : List UInt8 := dkwX2_feed_2 ++ []
def dkwX2_feed_1 : List UInt8 := [18, 40, 172, 42, 180, 0, 13, 42, 180, 0, 37, 27, 79, 42, 89, 180, 0, 37, 4, 96, 181, 0, 37, 42]
abbrev dktX2_feed_1 : List UInt8 := dkwX2_feed_1 ++ dktX2_feed_2
def dkwX2_feed_0 : List UInt8 := [27, 3, 17, 0, 255, 184, 0, 32, 154, 0, 6, 18, 36, 172, 42, 180, 0, 37, 17, 0, 200, 160, 0, 6]
abbrev dktX2_feed_0 : List UInt8 := dkwX2_feed_0 ++ dktX2_feed_1
theorem dksX2_feed_0 : cX2_feed.data.toList.drop 0 = dktX2_feed_0 := by decide +kernel
theorem dksX2_feed_1 : cX2_feed.data.toList.drop 24 = dktX2_feed_1 := dk_seg dksX2_feed_0 24 rfl rfl
theorem dksX2_feed_2 : cX2_feed.data.toList.drop 48 = dktX2_feed_2 := dk_seg dksX2_feed_1 24 rfl rfl
theorem dX2_feed_0 : decode cX2_feed 0 = .ok (.iload_n 1, 1) := dk_27 (dk_at dksX2_feed_0 0 rfl rfl)
theorem dX2_feed_1 : decode cX2_feed 1 = .ok (.iconst 0, 1) := dk_3 (dk_at dksX2_feed_0 1 rfl rfl)
theorem dX2_feed_2 : decode cX2_feed 2 = .ok (.sipush 255, 3) := dk_17 0 255 (dk_at dksX2_feed_0 2 rfl rfl)
theorem dX2_feed_5 : decode cX2_feed 5 = .ok (.invokestatic 32, 3) := dk_184 0 32 (dk_at dksX2_feed_0 5 rfl rfl)
theorem dX2_feed_8 : decode cX2_feed 8 = .ok (.ifCond .ne 6, 3) := dk_154 0 6 (dk_at dksX2_feed_0 8 rfl rfl)
theorem dX2_feed_11 : decode cX2_feed 11 = .ok (.ldc 36, 2) := dk_18 36 (dk_at dksX2_feed_0 11 rfl rfl)
theorem dX2_feed_13 : decode cX2_feed 13 = .ok (.ireturn, 1) := dk_172 (dk_at dksX2_feed_0 13 rfl rfl)
theorem dX2_feed_14 : decode cX2_feed 14 = .ok (.aload_n 0, 1) := dk_42 (dk_at dksX2_feed_0 14 rfl rfl)
theorem dX2_feed_15 : decode cX2_feed 15 = .ok (.getfield 37, 3) := dk_180 0 37 (dk_at dksX2_feed_0 15 rfl rfl)
theorem dX2_feed_18 : decode cX2_feed 18 = .ok (.sipush 200, 3) := dk_17 0 200 (dk_at dksX2_feed_0 18 rfl rfl)
theorem dX2_feed_21 : decode cX2_feed 21 = .ok (.if_icmp .ne 6, 3) := dk_160 0 6 (dk_at dksX2_feed_0 21 rfl rfl)
theorem dX2_feed_24 : decode cX2_feed 24 = .ok (.ldc 40, 2) := dk_18 40 (dk_at dksX2_feed_1 0 rfl rfl)
theorem dX2_feed_26 : decode cX2_feed 26 = .ok (.ireturn, 1) := dk_172 (dk_at dksX2_feed_1 2 rfl rfl)
theorem dX2_feed_27 : decode cX2_feed 27 = .ok (.aload_n 0, 1) := dk_42 (dk_at dksX2_feed_1 3 rfl rfl)
theorem dX2_feed_28 : decode cX2_feed 28 = .ok (.getfield 13, 3) := dk_180 0 13 (dk_at dksX2_feed_1 4 rfl rfl)
theorem dX2_feed_31 : decode cX2_feed 31 = .ok (.aload_n 0, 1) := dk_42 (dk_at dksX2_feed_1 7 rfl rfl)
theorem dX2_feed_32 : decode cX2_feed 32 = .ok (.getfield 37, 3) := dk_180 0 37 (dk_at dksX2_feed_1 8 rfl rfl)
theorem dX2_feed_35 : decode cX2_feed 35 = .ok (.iload_n 1, 1) := dk_27 (dk_at dksX2_feed_1 11 rfl rfl)
theorem dX2_feed_36 : decode cX2_feed 36 = .ok (.iastore, 1) := dk_79 (dk_at dksX2_feed_1 12 rfl rfl)
theorem dX2_feed_37 : decode cX2_feed 37 = .ok (.aload_n 0, 1) := dk_42 (dk_at dksX2_feed_1 13 rfl rfl)
theorem dX2_feed_38 : decode cX2_feed 38 = .ok (.dup, 1) := dk_89 (dk_at dksX2_feed_1 14 rfl rfl)
theorem dX2_feed_39 : decode cX2_feed 39 = .ok (.getfield 37, 3) := dk_180 0 37 (dk_at dksX2_feed_1 15 rfl rfl)
theorem dX2_feed_42 : decode cX2_feed 42 = .ok (.iconst 1, 1) := dk_4 (dk_at dksX2_feed_1 18 rfl rfl)
theorem dX2_feed_43 : decode cX2_feed 43 = .ok (.iadd, 1) := dk_96 (dk_at dksX2_feed_1 19 rfl rfl)
theorem dX2_feed_44 : decode cX2_feed 44 = .ok (.putfield 37, 3) := dk_181 0 37 (dk_at dksX2_feed_1 20 rfl rfl)
theorem dX2_feed_47 : decode cX2_feed 47 = .ok (.aload_n 0, 1) := dk_42 (dk_at dksX2_feed_1 23 rfl rfl)
theorem dX2_feed_48 : decode cX2_feed 48 = .ok (.getfield 37, 3) := dk_180 0 37 (dk_at dksX2_feed_2 0 rfl rfl)
theorem dX2_feed_51 : decode cX2_feed 51 = .ok (.ireturn, 1) := dk_172 (dk_at dksX2_feed_2 3 rfl rfl)
abbrev cX2_in : ByteArray := prog_12_method_3_code
def yX2_in : MethodName := ⟨RX2, "in", "(III)Z"⟩
def dkwX2_in_0 : List UInt8 := [26, 27, 161, 0, 12, 26, 28, 163, 0, 7, 4, 167, 0, 4, 3, 172]
abbrev dktX2_in_0 : List UInt8 := dkwX2_in_0 ++ []
theorem dksX2_in_0 : cX2_in.data.toList.drop 0 = dktX2_in_0 := by decide +kernel
theorem dX2_in_0 : decode cX2_in 0 = .ok (.iload_n 0, 1) := dk_26 (dk_at dksX2_in_0 0 rfl rfl)
theorem dX2_in_1 : decode cX2_in 1 = .ok (.iload_n 1, 1) := dk_27 (dk_at dksX2_in_0 1 rfl rfl)
theorem dX2_in_2 : decode cX2_in 2 = .ok (.if_icmp .lt 12, 3) := dk_161 0 12 (dk_at dksX2_in_0 2 rfl rfl)
theorem dX2_in_5 : decode cX2_in 5 = .ok (.iload_n 0, 1) := dk_26 (dk_at dksX2_in_0 5 rfl rfl)
theorem dX2_in_6 : decode cX2_in 6 = .ok (.iload_n 2, 1) := dk_28 (dk_at dksX2_in_0 6 rfl rfl)
theorem dX2_in_7 : decode cX2_in 7 = .ok (.if_icmp .gt 7, 3) := dk_163 0 7 (dk_at dksX2_in_0 7 rfl rfl)
theorem dX2_in_10 : decode cX2_in 10 = .ok (.iconst 1, 1) := dk_4 (dk_at dksX2_in_0 10 rfl rfl)
theorem dX2_in_11 : decode cX2_in 11 = .ok (.goto 4, 3) := dk_167 0 4 (dk_at dksX2_in_0 11 rfl rfl)
theorem dX2_in_14 : decode cX2_in 14 = .ok (.iconst 0, 1) := dk_3 (dk_at dksX2_in_0 14 rfl rfl)
theorem dX2_in_15 : decode cX2_in 15 = .ok (.ireturn, 1) := dk_172 (dk_at dksX2_in_0 15 rfl rfl)
abbrev cX2_clocks : ByteArray := prog_12_method_18_code
def yX2_clocks : MethodName := ⟨RX2, "clocks", "()I"⟩
def dkwX2_clocks_7 : List UInt8 := [3, 181, 0, 94, 42, 180, 0, 7, 3, 46, 172]
abbrev dktX2_clocks_7 : List UInt8 := dkwX2_clocks_7 ++ []
def dkwX2_clocks_6 : List UInt8 := [17, 0, 191, 46, 79, 42, 17, 14, 64, 3, 182, 0, 85, 42, 3, 181, 0, 88, 42, 3, 181, 0, 91, 42]
abbrev dktX2_clocks_6 : List UInt8 := dkwX2_clocks_6 ++ dktX2_clocks_7
def dkwX2_clocks_5 : List UInt8 := [181, 0, 16, 16, 246, 42, 180, 0, 41, 100, 172, 42, 180, 0, 7, 17, 14, 255, 42, 180, 0, 7]
abbrev dktX2_clocks_5 : List UInt8 := dkwX2_clocks_5 ++ dktX2_clocks_6
def dkwX2_clocks_4 : List UInt8 := [182, 0, 54, 60, 167, 255, 229, 42, 3, 181, 0, 37, 42, 182, 0, 44, 154, 0, 19, 42, 42, 180, 0, 48]
abbrev dktX2_clocks_4 : List UInt8 := dkwX2_clocks_4 ++ dktX2_clocks_5
def dkwX2_clocks_3 : List UInt8 := [182, 0, 44, 153, 0, 26, 42, 180, 0, 51, 42, 180, 0, 37, 162, 0, 15, 42, 182, 0, 82, 42]
abbrev dktX2_clocks_3 : List UInt8 := dkwX2_clocks_3 ++ dktX2_clocks_4
def dkwX2_clocks_2 : List UInt8 := [132, 1, 1, 167, 255, 235, 42, 180, 0, 7, 17, 14, 66, 16, 10, 79, 42, 182, 0, 54, 60, 42]
abbrev dktX2_clocks_2 : List UInt8 := dkwX2_clocks_2 ++ dktX2_clocks_3
def dkwX2_clocks_1 : List UInt8 := [181, 0, 72, 3, 60, 27, 17, 0, 192, 162, 0, 20, 42, 180, 0, 7, 17, 14, 64, 27, 96, 3, 79]
abbrev dktX2_clocks_1 : List UInt8 := dkwX2_clocks_1 ++ dktX2_clocks_2
def dkwX2_clocks_0 : List UInt8 := [42, 3, 181, 0, 51, 42, 3, 181, 0, 41, 42, 2, 181, 0, 16, 42, 3, 181, 0, 69, 42, 3]
abbrev dktX2_clocks_0 : List UInt8 := dkwX2_clocks_0 ++ dktX2_clocks_1
theorem dksX2_clocks_0 : cX2_clocks.data.toList.drop 0 = dktX2_clocks_0 := by decide +kernel
theorem dksX2_clocks_1 : cX2_clocks.data.toList.drop 22 = dktX2_clocks_1 := dk_seg dksX2_clocks_0 22 rfl rfl
theorem dksX2_clocks_2 : cX2_clocks.data.toList.drop 45 = dktX2_clocks_2 := dk_seg dksX2_clocks_1 23 rfl rfl
theorem dksX2_clocks_3 : cX2_clocks.data.toList.drop 67 = dktX2_clocks_3 := dk_seg dksX2_clocks_2 22 rfl rfl
theorem dksX2_clocks_4 : cX2_clocks.data.toList.drop 89 = dktX2_clocks_4 := dk_seg dksX2_clocks_3 22 rfl rfl
theorem dksX2_clocks_5 : cX2_clocks.data.toList.drop 113 = dktX2_clocks_5 := dk_seg dksX2_clocks_4 24 rfl rfl
theorem dksX2_clocks_6 : cX2_clocks.data.toList.drop 135 = dktX2_clocks_6 := dk_seg dksX2_clocks_5 22 rfl rfl
theorem dksX2_clocks_7 : cX2_clocks.data.toList.drop 159 = dktX2_clocks_7 := dk_seg dksX2_clocks_6 24 rfl rfl
theorem dX2_clocks_0 : decode cX2_clocks 0 = .ok (.aload_n 0, 1) := dk_42 (dk_at dksX2_clocks_0 0 rfl rfl)
theorem dX2_clocks_1 : decode cX2_clocks 1 = .ok (.iconst 0, 1) := dk_3 (dk_at dksX2_clocks_0 1 rfl rfl)
theorem dX2_clocks_2 : decode cX2_clocks 2 = .ok (.putfield 51, 3) := dk_181 0 51 (dk_at dksX2_clocks_0 2 rfl rfl)
theorem dX2_clocks_5 : decode cX2_clocks 5 = .ok (.aload_n 0, 1) := dk_42 (dk_at dksX2_clocks_0 5 rfl rfl)
theorem dX2_clocks_6 : decode cX2_clocks 6 = .ok (.iconst 0, 1) := dk_3 (dk_at dksX2_clocks_0 6 rfl rfl)
theorem dX2_clocks_7 : decode cX2_clocks 7 = .ok (.putfield 41, 3) := dk_181 0 41 (dk_at dksX2_clocks_0 7 rfl rfl)
theorem dX2_clocks_10 : decode cX2_clocks 10 = .ok (.aload_n 0, 1) := dk_42 (dk_at dksX2_clocks_0 10 rfl rfl)
theorem dX2_clocks_11 : decode cX2_clocks 11 = .ok (.iconst (-1), 1) := dk_2 (dk_at dksX2_clocks_0 11 rfl rfl)
theorem dX2_clocks_12 : decode cX2_clocks 12 = .ok (.putfield 16, 3) := dk_181 0 16 (dk_at dksX2_clocks_0 12 rfl rfl)
theorem dX2_clocks_15 : decode cX2_clocks 15 = .ok (.aload_n 0, 1) := dk_42 (dk_at dksX2_clocks_0 15 rfl rfl)
theorem dX2_clocks_16 : decode cX2_clocks 16 = .ok (.iconst 0, 1) := dk_3 (dk_at dksX2_clocks_0 16 rfl rfl)
theorem dX2_clocks_17 : decode cX2_clocks 17 = .ok (.putfield 69, 3) := dk_181 0 69 (dk_at dksX2_clocks_0 17 rfl rfl)
theorem dX2_clocks_20 : decode cX2_clocks 20 = .ok (.aload_n 0, 1) := dk_42 (dk_at dksX2_clocks_0 20 rfl rfl)
theorem dX2_clocks_21 : decode cX2_clocks 21 = .ok (.iconst 0, 1) := dk_3 (dk_at dksX2_clocks_0 21 rfl rfl)
theorem dX2_clocks_22 : decode cX2_clocks 22 = .ok (.putfield 72, 3) := dk_181 0 72 (dk_at dksX2_clocks_1 0 rfl rfl)
theorem dX2_clocks_25 : decode cX2_clocks 25 = .ok (.iconst 0, 1) := dk_3 (dk_at dksX2_clocks_1 3 rfl rfl)
theorem dX2_clocks_26 : decode cX2_clocks 26 = .ok (.istore_n 1, 1) := dk_60 (dk_at dksX2_clocks_1 4 rfl rfl)
theorem dX2_clocks_27 : decode cX2_clocks 27 = .ok (.iload_n 1, 1) := dk_27 (dk_at dksX2_clocks_1 5 rfl rfl)
theorem dX2_clocks_28 : decode cX2_clocks 28 = .ok (.sipush 192, 3) := dk_17 0 192 (dk_at dksX2_clocks_1 6 rfl rfl)
theorem dX2_clocks_31 : decode cX2_clocks 31 = .ok (.if_icmp .ge 20, 3) := dk_162 0 20 (dk_at dksX2_clocks_1 9 rfl rfl)
theorem dX2_clocks_34 : decode cX2_clocks 34 = .ok (.aload_n 0, 1) := dk_42 (dk_at dksX2_clocks_1 12 rfl rfl)
theorem dX2_clocks_35 : decode cX2_clocks 35 = .ok (.getfield 7, 3) := dk_180 0 7 (dk_at dksX2_clocks_1 13 rfl rfl)
theorem dX2_clocks_38 : decode cX2_clocks 38 = .ok (.sipush 3648, 3) := dk_17 14 64 (dk_at dksX2_clocks_1 16 rfl rfl)
theorem dX2_clocks_41 : decode cX2_clocks 41 = .ok (.iload_n 1, 1) := dk_27 (dk_at dksX2_clocks_1 19 rfl rfl)
theorem dX2_clocks_42 : decode cX2_clocks 42 = .ok (.iadd, 1) := dk_96 (dk_at dksX2_clocks_1 20 rfl rfl)
theorem dX2_clocks_43 : decode cX2_clocks 43 = .ok (.iconst 0, 1) := dk_3 (dk_at dksX2_clocks_1 21 rfl rfl)
theorem dX2_clocks_44 : decode cX2_clocks 44 = .ok (.iastore, 1) := dk_79 (dk_at dksX2_clocks_1 22 rfl rfl)
theorem dX2_clocks_45 : decode cX2_clocks 45 = .ok (.iinc 1 1, 3) := dk_132 1 1 (dk_at dksX2_clocks_2 0 rfl rfl)
theorem dX2_clocks_48 : decode cX2_clocks 48 = .ok (.goto (-21), 3) := dk_167 255 235 (dk_at dksX2_clocks_2 3 rfl rfl)
theorem dX2_clocks_51 : decode cX2_clocks 51 = .ok (.aload_n 0, 1) := dk_42 (dk_at dksX2_clocks_2 6 rfl rfl)
theorem dX2_clocks_52 : decode cX2_clocks 52 = .ok (.getfield 7, 3) := dk_180 0 7 (dk_at dksX2_clocks_2 7 rfl rfl)
theorem dX2_clocks_55 : decode cX2_clocks 55 = .ok (.sipush 3650, 3) := dk_17 14 66 (dk_at dksX2_clocks_2 10 rfl rfl)
theorem dX2_clocks_58 : decode cX2_clocks 58 = .ok (.bipush 10, 2) := dk_16 10 (dk_at dksX2_clocks_2 13 rfl rfl)
theorem dX2_clocks_60 : decode cX2_clocks 60 = .ok (.iastore, 1) := dk_79 (dk_at dksX2_clocks_2 15 rfl rfl)
theorem dX2_clocks_61 : decode cX2_clocks 61 = .ok (.aload_n 0, 1) := dk_42 (dk_at dksX2_clocks_2 16 rfl rfl)
theorem dX2_clocks_62 : decode cX2_clocks 62 = .ok (.invokevirtual 54, 3) := dk_182 0 54 (dk_at dksX2_clocks_2 17 rfl rfl)
theorem dX2_clocks_65 : decode cX2_clocks 65 = .ok (.istore_n 1, 1) := dk_60 (dk_at dksX2_clocks_2 20 rfl rfl)
theorem dX2_clocks_66 : decode cX2_clocks 66 = .ok (.aload_n 0, 1) := dk_42 (dk_at dksX2_clocks_2 21 rfl rfl)
theorem dX2_clocks_67 : decode cX2_clocks 67 = .ok (.invokevirtual 44, 3) := dk_182 0 44 (dk_at dksX2_clocks_3 0 rfl rfl)
theorem dX2_clocks_70 : decode cX2_clocks 70 = .ok (.ifCond .eq 26, 3) := dk_153 0 26 (dk_at dksX2_clocks_3 3 rfl rfl)
theorem dX2_clocks_73 : decode cX2_clocks 73 = .ok (.aload_n 0, 1) := dk_42 (dk_at dksX2_clocks_3 6 rfl rfl)
theorem dX2_clocks_74 : decode cX2_clocks 74 = .ok (.getfield 51, 3) := dk_180 0 51 (dk_at dksX2_clocks_3 7 rfl rfl)
theorem dX2_clocks_77 : decode cX2_clocks 77 = .ok (.aload_n 0, 1) := dk_42 (dk_at dksX2_clocks_3 10 rfl rfl)
theorem dX2_clocks_78 : decode cX2_clocks 78 = .ok (.getfield 37, 3) := dk_180 0 37 (dk_at dksX2_clocks_3 11 rfl rfl)
theorem dX2_clocks_81 : decode cX2_clocks 81 = .ok (.if_icmp .ge 15, 3) := dk_162 0 15 (dk_at dksX2_clocks_3 14 rfl rfl)
theorem dX2_clocks_84 : decode cX2_clocks 84 = .ok (.aload_n 0, 1) := dk_42 (dk_at dksX2_clocks_3 17 rfl rfl)
theorem dX2_clocks_85 : decode cX2_clocks 85 = .ok (.invokevirtual 82, 3) := dk_182 0 82 (dk_at dksX2_clocks_3 18 rfl rfl)
theorem dX2_clocks_88 : decode cX2_clocks 88 = .ok (.aload_n 0, 1) := dk_42 (dk_at dksX2_clocks_3 21 rfl rfl)
theorem dX2_clocks_89 : decode cX2_clocks 89 = .ok (.invokevirtual 54, 3) := dk_182 0 54 (dk_at dksX2_clocks_4 0 rfl rfl)
theorem dX2_clocks_92 : decode cX2_clocks 92 = .ok (.istore_n 1, 1) := dk_60 (dk_at dksX2_clocks_4 3 rfl rfl)
theorem dX2_clocks_93 : decode cX2_clocks 93 = .ok (.goto (-27), 3) := dk_167 255 229 (dk_at dksX2_clocks_4 4 rfl rfl)
theorem dX2_clocks_96 : decode cX2_clocks 96 = .ok (.aload_n 0, 1) := dk_42 (dk_at dksX2_clocks_4 7 rfl rfl)
theorem dX2_clocks_97 : decode cX2_clocks 97 = .ok (.iconst 0, 1) := dk_3 (dk_at dksX2_clocks_4 8 rfl rfl)
theorem dX2_clocks_98 : decode cX2_clocks 98 = .ok (.putfield 37, 3) := dk_181 0 37 (dk_at dksX2_clocks_4 9 rfl rfl)
theorem dX2_clocks_101 : decode cX2_clocks 101 = .ok (.aload_n 0, 1) := dk_42 (dk_at dksX2_clocks_4 12 rfl rfl)
theorem dX2_clocks_102 : decode cX2_clocks 102 = .ok (.invokevirtual 44, 3) := dk_182 0 44 (dk_at dksX2_clocks_4 13 rfl rfl)
theorem dX2_clocks_105 : decode cX2_clocks 105 = .ok (.ifCond .ne 19, 3) := dk_154 0 19 (dk_at dksX2_clocks_4 16 rfl rfl)
theorem dX2_clocks_108 : decode cX2_clocks 108 = .ok (.aload_n 0, 1) := dk_42 (dk_at dksX2_clocks_4 19 rfl rfl)
theorem dX2_clocks_109 : decode cX2_clocks 109 = .ok (.aload_n 0, 1) := dk_42 (dk_at dksX2_clocks_4 20 rfl rfl)
theorem dX2_clocks_110 : decode cX2_clocks 110 = .ok (.getfield 48, 3) := dk_180 0 48 (dk_at dksX2_clocks_4 21 rfl rfl)
theorem dX2_clocks_113 : decode cX2_clocks 113 = .ok (.putfield 16, 3) := dk_181 0 16 (dk_at dksX2_clocks_5 0 rfl rfl)
theorem dX2_clocks_116 : decode cX2_clocks 116 = .ok (.bipush (-10), 2) := dk_16 246 (dk_at dksX2_clocks_5 3 rfl rfl)
theorem dX2_clocks_118 : decode cX2_clocks 118 = .ok (.aload_n 0, 1) := dk_42 (dk_at dksX2_clocks_5 5 rfl rfl)
theorem dX2_clocks_119 : decode cX2_clocks 119 = .ok (.getfield 41, 3) := dk_180 0 41 (dk_at dksX2_clocks_5 6 rfl rfl)
theorem dX2_clocks_122 : decode cX2_clocks 122 = .ok (.isub, 1) := dk_100 (dk_at dksX2_clocks_5 9 rfl rfl)
theorem dX2_clocks_123 : decode cX2_clocks 123 = .ok (.ireturn, 1) := dk_172 (dk_at dksX2_clocks_5 10 rfl rfl)
theorem dX2_clocks_124 : decode cX2_clocks 124 = .ok (.aload_n 0, 1) := dk_42 (dk_at dksX2_clocks_5 11 rfl rfl)
theorem dX2_clocks_125 : decode cX2_clocks 125 = .ok (.getfield 7, 3) := dk_180 0 7 (dk_at dksX2_clocks_5 12 rfl rfl)
theorem dX2_clocks_128 : decode cX2_clocks 128 = .ok (.sipush 3839, 3) := dk_17 14 255 (dk_at dksX2_clocks_5 15 rfl rfl)
theorem dX2_clocks_131 : decode cX2_clocks 131 = .ok (.aload_n 0, 1) := dk_42 (dk_at dksX2_clocks_5 18 rfl rfl)
theorem dX2_clocks_132 : decode cX2_clocks 132 = .ok (.getfield 7, 3) := dk_180 0 7 (dk_at dksX2_clocks_5 19 rfl rfl)
theorem dX2_clocks_135 : decode cX2_clocks 135 = .ok (.sipush 191, 3) := dk_17 0 191 (dk_at dksX2_clocks_6 0 rfl rfl)
theorem dX2_clocks_138 : decode cX2_clocks 138 = .ok (.iaload, 1) := dk_46 (dk_at dksX2_clocks_6 3 rfl rfl)
theorem dX2_clocks_139 : decode cX2_clocks 139 = .ok (.iastore, 1) := dk_79 (dk_at dksX2_clocks_6 4 rfl rfl)
theorem dX2_clocks_140 : decode cX2_clocks 140 = .ok (.aload_n 0, 1) := dk_42 (dk_at dksX2_clocks_6 5 rfl rfl)
theorem dX2_clocks_141 : decode cX2_clocks 141 = .ok (.sipush 3648, 3) := dk_17 14 64 (dk_at dksX2_clocks_6 6 rfl rfl)
theorem dX2_clocks_144 : decode cX2_clocks 144 = .ok (.iconst 0, 1) := dk_3 (dk_at dksX2_clocks_6 9 rfl rfl)
theorem dX2_clocks_145 : decode cX2_clocks 145 = .ok (.invokevirtual 85, 3) := dk_182 0 85 (dk_at dksX2_clocks_6 10 rfl rfl)
theorem dX2_clocks_148 : decode cX2_clocks 148 = .ok (.aload_n 0, 1) := dk_42 (dk_at dksX2_clocks_6 13 rfl rfl)
theorem dX2_clocks_149 : decode cX2_clocks 149 = .ok (.iconst 0, 1) := dk_3 (dk_at dksX2_clocks_6 14 rfl rfl)
theorem dX2_clocks_150 : decode cX2_clocks 150 = .ok (.putfield 88, 3) := dk_181 0 88 (dk_at dksX2_clocks_6 15 rfl rfl)
theorem dX2_clocks_153 : decode cX2_clocks 153 = .ok (.aload_n 0, 1) := dk_42 (dk_at dksX2_clocks_6 18 rfl rfl)
theorem dX2_clocks_154 : decode cX2_clocks 154 = .ok (.iconst 0, 1) := dk_3 (dk_at dksX2_clocks_6 19 rfl rfl)
theorem dX2_clocks_155 : decode cX2_clocks 155 = .ok (.putfield 91, 3) := dk_181 0 91 (dk_at dksX2_clocks_6 20 rfl rfl)
theorem dX2_clocks_158 : decode cX2_clocks 158 = .ok (.aload_n 0, 1) := dk_42 (dk_at dksX2_clocks_6 23 rfl rfl)
theorem dX2_clocks_159 : decode cX2_clocks 159 = .ok (.iconst 0, 1) := dk_3 (dk_at dksX2_clocks_7 0 rfl rfl)
theorem dX2_clocks_160 : decode cX2_clocks 160 = .ok (.putfield 94, 3) := dk_181 0 94 (dk_at dksX2_clocks_7 1 rfl rfl)
theorem dX2_clocks_163 : decode cX2_clocks 163 = .ok (.aload_n 0, 1) := dk_42 (dk_at dksX2_clocks_7 4 rfl rfl)
theorem dX2_clocks_164 : decode cX2_clocks 164 = .ok (.getfield 7, 3) := dk_180 0 7 (dk_at dksX2_clocks_7 5 rfl rfl)
theorem dX2_clocks_167 : decode cX2_clocks 167 = .ok (.iconst 0, 1) := dk_3 (dk_at dksX2_clocks_7 8 rfl rfl)
theorem dX2_clocks_168 : decode cX2_clocks 168 = .ok (.iaload, 1) := dk_46 (dk_at dksX2_clocks_7 9 rfl rfl)
theorem dX2_clocks_169 : decode cX2_clocks 169 = .ok (.ireturn, 1) := dk_172 (dk_at dksX2_clocks_7 10 rfl rfl)
abbrev cX2_here : ByteArray := prog_12_method_13_code
def yX2_here : MethodName := ⟨RX2, "here", "()I"⟩
def dkwX2_here_2 : List UInt8 := [162, 0, 15, 42, 180, 0, 13, 42, 180, 0, 51, 46, 167, 0, 4, 3, 172]
abbrev dktX2_here_2 : List UInt8 := dkwX2_here_2 ++ []
def dkwX2_here_1 : List UInt8 := [160, 0, 16, 42, 89, 180, 0, 51, 4, 96, 181, 0, 51, 167, 255, 221, 42, 180, 0, 51, 42, 180, 0, 37]
abbrev dktX2_here_1 : List UInt8 := dkwX2_here_1 ++ dktX2_here_2
def dkwX2_here_0 : List UInt8 := [42, 180, 0, 51, 42, 180, 0, 37, 162, 0, 30, 42, 180, 0, 13, 42, 180, 0, 51, 46, 16, 32]
abbrev dktX2_here_0 : List UInt8 := dkwX2_here_0 ++ dktX2_here_1
theorem dksX2_here_0 : cX2_here.data.toList.drop 0 = dktX2_here_0 := by decide +kernel
theorem dksX2_here_1 : cX2_here.data.toList.drop 22 = dktX2_here_1 := dk_seg dksX2_here_0 22 rfl rfl
theorem dksX2_here_2 : cX2_here.data.toList.drop 46 = dktX2_here_2 := dk_seg dksX2_here_1 24 rfl rfl
theorem dX2_here_0 : decode cX2_here 0 = .ok (.aload_n 0, 1) := dk_42 (dk_at dksX2_here_0 0 rfl rfl)
theorem dX2_here_1 : decode cX2_here 1 = .ok (.getfield 51, 3) := dk_180 0 51 (dk_at dksX2_here_0 1 rfl rfl)
theorem dX2_here_4 : decode cX2_here 4 = .ok (.aload_n 0, 1) := dk_42 (dk_at dksX2_here_0 4 rfl rfl)
theorem dX2_here_5 : decode cX2_here 5 = .ok (.getfield 37, 3) := dk_180 0 37 (dk_at dksX2_here_0 5 rfl rfl)
theorem dX2_here_8 : decode cX2_here 8 = .ok (.if_icmp .ge 30, 3) := dk_162 0 30 (dk_at dksX2_here_0 8 rfl rfl)
theorem dX2_here_11 : decode cX2_here 11 = .ok (.aload_n 0, 1) := dk_42 (dk_at dksX2_here_0 11 rfl rfl)
theorem dX2_here_12 : decode cX2_here 12 = .ok (.getfield 13, 3) := dk_180 0 13 (dk_at dksX2_here_0 12 rfl rfl)
theorem dX2_here_15 : decode cX2_here 15 = .ok (.aload_n 0, 1) := dk_42 (dk_at dksX2_here_0 15 rfl rfl)
theorem dX2_here_16 : decode cX2_here 16 = .ok (.getfield 51, 3) := dk_180 0 51 (dk_at dksX2_here_0 16 rfl rfl)
theorem dX2_here_19 : decode cX2_here 19 = .ok (.iaload, 1) := dk_46 (dk_at dksX2_here_0 19 rfl rfl)
theorem dX2_here_20 : decode cX2_here 20 = .ok (.bipush 32, 2) := dk_16 32 (dk_at dksX2_here_0 20 rfl rfl)
theorem dX2_here_22 : decode cX2_here 22 = .ok (.if_icmp .ne 16, 3) := dk_160 0 16 (dk_at dksX2_here_1 0 rfl rfl)
theorem dX2_here_25 : decode cX2_here 25 = .ok (.aload_n 0, 1) := dk_42 (dk_at dksX2_here_1 3 rfl rfl)
theorem dX2_here_26 : decode cX2_here 26 = .ok (.dup, 1) := dk_89 (dk_at dksX2_here_1 4 rfl rfl)
theorem dX2_here_27 : decode cX2_here 27 = .ok (.getfield 51, 3) := dk_180 0 51 (dk_at dksX2_here_1 5 rfl rfl)
theorem dX2_here_30 : decode cX2_here 30 = .ok (.iconst 1, 1) := dk_4 (dk_at dksX2_here_1 8 rfl rfl)
theorem dX2_here_31 : decode cX2_here 31 = .ok (.iadd, 1) := dk_96 (dk_at dksX2_here_1 9 rfl rfl)
theorem dX2_here_32 : decode cX2_here 32 = .ok (.putfield 51, 3) := dk_181 0 51 (dk_at dksX2_here_1 10 rfl rfl)
theorem dX2_here_35 : decode cX2_here 35 = .ok (.goto (-35), 3) := dk_167 255 221 (dk_at dksX2_here_1 13 rfl rfl)
theorem dX2_here_38 : decode cX2_here 38 = .ok (.aload_n 0, 1) := dk_42 (dk_at dksX2_here_1 16 rfl rfl)
theorem dX2_here_39 : decode cX2_here 39 = .ok (.getfield 51, 3) := dk_180 0 51 (dk_at dksX2_here_1 17 rfl rfl)
theorem dX2_here_42 : decode cX2_here 42 = .ok (.aload_n 0, 1) := dk_42 (dk_at dksX2_here_1 20 rfl rfl)
theorem dX2_here_43 : decode cX2_here 43 = .ok (.getfield 37, 3) := dk_180 0 37 (dk_at dksX2_here_1 21 rfl rfl)
theorem dX2_here_46 : decode cX2_here 46 = .ok (.if_icmp .ge 15, 3) := dk_162 0 15 (dk_at dksX2_here_2 0 rfl rfl)
theorem dX2_here_49 : decode cX2_here 49 = .ok (.aload_n 0, 1) := dk_42 (dk_at dksX2_here_2 3 rfl rfl)
theorem dX2_here_50 : decode cX2_here 50 = .ok (.getfield 13, 3) := dk_180 0 13 (dk_at dksX2_here_2 4 rfl rfl)
theorem dX2_here_53 : decode cX2_here 53 = .ok (.aload_n 0, 1) := dk_42 (dk_at dksX2_here_2 7 rfl rfl)
theorem dX2_here_54 : decode cX2_here 54 = .ok (.getfield 51, 3) := dk_180 0 51 (dk_at dksX2_here_2 8 rfl rfl)
theorem dX2_here_57 : decode cX2_here 57 = .ok (.iaload, 1) := dk_46 (dk_at dksX2_here_2 11 rfl rfl)
theorem dX2_here_58 : decode cX2_here 58 = .ok (.goto 4, 3) := dk_167 0 4 (dk_at dksX2_here_2 12 rfl rfl)
theorem dX2_here_61 : decode cX2_here 61 = .ok (.iconst 0, 1) := dk_3 (dk_at dksX2_here_2 15 rfl rfl)
theorem dX2_here_62 : decode cX2_here 62 = .ok (.ireturn, 1) := dk_172 (dk_at dksX2_here_2 16 rfl rfl)
abbrev cX2_fine : ByteArray := prog_12_method_11_code
def yX2_fine : MethodName := ⟨RX2, "fine", "()Z"⟩
def dkwX2_fine_0 : List UInt8 := [42, 180, 0, 41, 154, 0, 7, 4, 167, 0, 4, 3, 172]
abbrev dktX2_fine_0 : List UInt8 := dkwX2_fine_0 ++ []
theorem dksX2_fine_0 : cX2_fine.data.toList.drop 0 = dktX2_fine_0 := by decide +kernel
theorem dX2_fine_0 : decode cX2_fine 0 = .ok (.aload_n 0, 1) := dk_42 (dk_at dksX2_fine_0 0 rfl rfl)
theorem dX2_fine_1 : decode cX2_fine 1 = .ok (.getfield 41, 3) := dk_180 0 41 (dk_at dksX2_fine_0 1 rfl rfl)
theorem dX2_fine_4 : decode cX2_fine 4 = .ok (.ifCond .ne 7, 3) := dk_154 0 7 (dk_at dksX2_fine_0 4 rfl rfl)
theorem dX2_fine_7 : decode cX2_fine 7 = .ok (.iconst 1, 1) := dk_4 (dk_at dksX2_fine_0 7 rfl rfl)
theorem dX2_fine_8 : decode cX2_fine 8 = .ok (.goto 4, 3) := dk_167 0 4 (dk_at dksX2_fine_0 8 rfl rfl)
theorem dX2_fine_11 : decode cX2_fine 11 = .ok (.iconst 0, 1) := dk_3 (dk_at dksX2_fine_0 11 rfl rfl)
theorem dX2_fine_12 : decode cX2_fine 12 = .ok (.ireturn, 1) := dk_172 (dk_at dksX2_fine_0 12 rfl rfl)
abbrev cX2_readClause : ByteArray := prog_12_method_17_code
def yX2_readClause : MethodName := ⟨RX2, "readClause", "()V"⟩
def dkwX2_readClause_3 : List UInt8 := [96, 181, 0, 51, 177]
abbrev dktX2_readClause_3 : List UInt8 := dkwX2_readClause_3 ++ []
def dkwX2_readClause_2 : List UInt8 := [42, 182, 0, 54, 16, 59, 159, 0, 12, 42, 4, 42, 180, 0, 51, 182, 0, 61, 42, 89, 180, 0, 51, 4]
abbrev dktX2_readClause_2 : List UInt8 := dkwX2_readClause_2 ++ dktX2_readClause_3
def dkwX2_readClause_1 : List UInt8 := [160, 0, 11, 42, 28, 182, 0, 75, 167, 0, 9, 42, 27, 28, 182, 0, 79, 42, 182, 0, 44, 153, 0, 31]
abbrev dktX2_readClause_1 : List UInt8 := dkwX2_readClause_1 ++ dktX2_readClause_2
def dkwX2_readClause_0 : List UInt8 := [42, 182, 0, 54, 60, 42, 180, 0, 51, 61, 42, 89, 180, 0, 51, 4, 96, 181, 0, 51, 27, 16, 107]
abbrev dktX2_readClause_0 : List UInt8 := dkwX2_readClause_0 ++ dktX2_readClause_1
theorem dksX2_readClause_0 : cX2_readClause.data.toList.drop 0 = dktX2_readClause_0 := by decide +kernel
theorem dksX2_readClause_1 : cX2_readClause.data.toList.drop 23 = dktX2_readClause_1 := dk_seg dksX2_readClause_0 23 rfl rfl
theorem dksX2_readClause_2 : cX2_readClause.data.toList.drop 47 = dktX2_readClause_2 := dk_seg dksX2_readClause_1 24 rfl rfl
theorem dksX2_readClause_3 : cX2_readClause.data.toList.drop 71 = dktX2_readClause_3 := dk_seg dksX2_readClause_2 24 rfl rfl
theorem dX2_readClause_0 : decode cX2_readClause 0 = .ok (.aload_n 0, 1) := dk_42 (dk_at dksX2_readClause_0 0 rfl rfl)
theorem dX2_readClause_1 : decode cX2_readClause 1 = .ok (.invokevirtual 54, 3) := dk_182 0 54 (dk_at dksX2_readClause_0 1 rfl rfl)
theorem dX2_readClause_4 : decode cX2_readClause 4 = .ok (.istore_n 1, 1) := dk_60 (dk_at dksX2_readClause_0 4 rfl rfl)
theorem dX2_readClause_5 : decode cX2_readClause 5 = .ok (.aload_n 0, 1) := dk_42 (dk_at dksX2_readClause_0 5 rfl rfl)
theorem dX2_readClause_6 : decode cX2_readClause 6 = .ok (.getfield 51, 3) := dk_180 0 51 (dk_at dksX2_readClause_0 6 rfl rfl)
theorem dX2_readClause_9 : decode cX2_readClause 9 = .ok (.istore_n 2, 1) := dk_61 (dk_at dksX2_readClause_0 9 rfl rfl)
theorem dX2_readClause_10 : decode cX2_readClause 10 = .ok (.aload_n 0, 1) := dk_42 (dk_at dksX2_readClause_0 10 rfl rfl)
theorem dX2_readClause_11 : decode cX2_readClause 11 = .ok (.dup, 1) := dk_89 (dk_at dksX2_readClause_0 11 rfl rfl)
theorem dX2_readClause_12 : decode cX2_readClause 12 = .ok (.getfield 51, 3) := dk_180 0 51 (dk_at dksX2_readClause_0 12 rfl rfl)
theorem dX2_readClause_15 : decode cX2_readClause 15 = .ok (.iconst 1, 1) := dk_4 (dk_at dksX2_readClause_0 15 rfl rfl)
theorem dX2_readClause_16 : decode cX2_readClause 16 = .ok (.iadd, 1) := dk_96 (dk_at dksX2_readClause_0 16 rfl rfl)
theorem dX2_readClause_17 : decode cX2_readClause 17 = .ok (.putfield 51, 3) := dk_181 0 51 (dk_at dksX2_readClause_0 17 rfl rfl)
theorem dX2_readClause_20 : decode cX2_readClause 20 = .ok (.iload_n 1, 1) := dk_27 (dk_at dksX2_readClause_0 20 rfl rfl)
theorem dX2_readClause_21 : decode cX2_readClause 21 = .ok (.bipush 107, 2) := dk_16 107 (dk_at dksX2_readClause_0 21 rfl rfl)
theorem dX2_readClause_23 : decode cX2_readClause 23 = .ok (.if_icmp .ne 11, 3) := dk_160 0 11 (dk_at dksX2_readClause_1 0 rfl rfl)
theorem dX2_readClause_26 : decode cX2_readClause 26 = .ok (.aload_n 0, 1) := dk_42 (dk_at dksX2_readClause_1 3 rfl rfl)
theorem dX2_readClause_27 : decode cX2_readClause 27 = .ok (.iload_n 2, 1) := dk_28 (dk_at dksX2_readClause_1 4 rfl rfl)
theorem dX2_readClause_28 : decode cX2_readClause 28 = .ok (.invokevirtual 75, 3) := dk_182 0 75 (dk_at dksX2_readClause_1 5 rfl rfl)
theorem dX2_readClause_31 : decode cX2_readClause 31 = .ok (.goto 9, 3) := dk_167 0 9 (dk_at dksX2_readClause_1 8 rfl rfl)
theorem dX2_readClause_34 : decode cX2_readClause 34 = .ok (.aload_n 0, 1) := dk_42 (dk_at dksX2_readClause_1 11 rfl rfl)
theorem dX2_readClause_35 : decode cX2_readClause 35 = .ok (.iload_n 1, 1) := dk_27 (dk_at dksX2_readClause_1 12 rfl rfl)
theorem dX2_readClause_36 : decode cX2_readClause 36 = .ok (.iload_n 2, 1) := dk_28 (dk_at dksX2_readClause_1 13 rfl rfl)
theorem dX2_readClause_37 : decode cX2_readClause 37 = .ok (.invokevirtual 79, 3) := dk_182 0 79 (dk_at dksX2_readClause_1 14 rfl rfl)
theorem dX2_readClause_40 : decode cX2_readClause 40 = .ok (.aload_n 0, 1) := dk_42 (dk_at dksX2_readClause_1 17 rfl rfl)
theorem dX2_readClause_41 : decode cX2_readClause 41 = .ok (.invokevirtual 44, 3) := dk_182 0 44 (dk_at dksX2_readClause_1 18 rfl rfl)
theorem dX2_readClause_44 : decode cX2_readClause 44 = .ok (.ifCond .eq 31, 3) := dk_153 0 31 (dk_at dksX2_readClause_1 21 rfl rfl)
theorem dX2_readClause_47 : decode cX2_readClause 47 = .ok (.aload_n 0, 1) := dk_42 (dk_at dksX2_readClause_2 0 rfl rfl)
theorem dX2_readClause_48 : decode cX2_readClause 48 = .ok (.invokevirtual 54, 3) := dk_182 0 54 (dk_at dksX2_readClause_2 1 rfl rfl)
theorem dX2_readClause_51 : decode cX2_readClause 51 = .ok (.bipush 59, 2) := dk_16 59 (dk_at dksX2_readClause_2 4 rfl rfl)
theorem dX2_readClause_53 : decode cX2_readClause 53 = .ok (.if_icmp .eq 12, 3) := dk_159 0 12 (dk_at dksX2_readClause_2 6 rfl rfl)
theorem dX2_readClause_56 : decode cX2_readClause 56 = .ok (.aload_n 0, 1) := dk_42 (dk_at dksX2_readClause_2 9 rfl rfl)
theorem dX2_readClause_57 : decode cX2_readClause 57 = .ok (.iconst 1, 1) := dk_4 (dk_at dksX2_readClause_2 10 rfl rfl)
theorem dX2_readClause_58 : decode cX2_readClause 58 = .ok (.aload_n 0, 1) := dk_42 (dk_at dksX2_readClause_2 11 rfl rfl)
theorem dX2_readClause_59 : decode cX2_readClause 59 = .ok (.getfield 51, 3) := dk_180 0 51 (dk_at dksX2_readClause_2 12 rfl rfl)
theorem dX2_readClause_62 : decode cX2_readClause 62 = .ok (.invokevirtual 61, 3) := dk_182 0 61 (dk_at dksX2_readClause_2 15 rfl rfl)
theorem dX2_readClause_65 : decode cX2_readClause 65 = .ok (.aload_n 0, 1) := dk_42 (dk_at dksX2_readClause_2 18 rfl rfl)
theorem dX2_readClause_66 : decode cX2_readClause 66 = .ok (.dup, 1) := dk_89 (dk_at dksX2_readClause_2 19 rfl rfl)
theorem dX2_readClause_67 : decode cX2_readClause 67 = .ok (.getfield 51, 3) := dk_180 0 51 (dk_at dksX2_readClause_2 20 rfl rfl)
theorem dX2_readClause_70 : decode cX2_readClause 70 = .ok (.iconst 1, 1) := dk_4 (dk_at dksX2_readClause_2 23 rfl rfl)
theorem dX2_readClause_71 : decode cX2_readClause 71 = .ok (.iadd, 1) := dk_96 (dk_at dksX2_readClause_3 0 rfl rfl)
theorem dX2_readClause_72 : decode cX2_readClause 72 = .ok (.putfield 51, 3) := dk_181 0 51 (dk_at dksX2_readClause_3 1 rfl rfl)
theorem dX2_readClause_75 : decode cX2_readClause 75 = .ok (.return_, 1) := dk_177 (dk_at dksX2_readClause_3 4 rfl rfl)
abbrev cX2_readClock : ByteArray := prog_12_method_15_code
def yX2_readClock : MethodName := ⟨RX2, "readClock", "(I)V"⟩
def dkwX2_readClock_2 : List UInt8 := [28, 96, 42, 16, 90, 16, 110, 182, 0, 65, 79, 42, 180, 0, 7, 17, 14, 64, 92, 46, 4, 96, 79, 177]
abbrev dktX2_readClock_2 : List UInt8 := dkwX2_readClock_2 ++ []
def dkwX2_readClock_1 : List UInt8 := [180, 0, 7, 17, 14, 67, 28, 96, 42, 3, 17, 39, 15, 182, 0, 65, 79, 42, 180, 0, 7, 17, 14, 75]
abbrev dktX2_readClock_1 : List UInt8 := dkwX2_readClock_1 ++ dktX2_readClock_2
def dkwX2_readClock_0 : List UInt8 := [42, 180, 0, 7, 17, 14, 64, 46, 61, 28, 16, 8, 160, 0, 10, 42, 6, 27, 182, 0, 61, 177, 42]
abbrev dktX2_readClock_0 : List UInt8 := dkwX2_readClock_0 ++ dktX2_readClock_1
theorem dksX2_readClock_0 : cX2_readClock.data.toList.drop 0 = dktX2_readClock_0 := by decide +kernel
theorem dksX2_readClock_1 : cX2_readClock.data.toList.drop 23 = dktX2_readClock_1 := dk_seg dksX2_readClock_0 23 rfl rfl
theorem dksX2_readClock_2 : cX2_readClock.data.toList.drop 47 = dktX2_readClock_2 := dk_seg dksX2_readClock_1 24 rfl rfl
theorem dX2_readClock_0 : decode cX2_readClock 0 = .ok (.aload_n 0, 1) := dk_42 (dk_at dksX2_readClock_0 0 rfl rfl)
theorem dX2_readClock_1 : decode cX2_readClock 1 = .ok (.getfield 7, 3) := dk_180 0 7 (dk_at dksX2_readClock_0 1 rfl rfl)
theorem dX2_readClock_4 : decode cX2_readClock 4 = .ok (.sipush 3648, 3) := dk_17 14 64 (dk_at dksX2_readClock_0 4 rfl rfl)
theorem dX2_readClock_7 : decode cX2_readClock 7 = .ok (.iaload, 1) := dk_46 (dk_at dksX2_readClock_0 7 rfl rfl)
theorem dX2_readClock_8 : decode cX2_readClock 8 = .ok (.istore_n 2, 1) := dk_61 (dk_at dksX2_readClock_0 8 rfl rfl)
theorem dX2_readClock_9 : decode cX2_readClock 9 = .ok (.iload_n 2, 1) := dk_28 (dk_at dksX2_readClock_0 9 rfl rfl)
theorem dX2_readClock_10 : decode cX2_readClock 10 = .ok (.bipush 8, 2) := dk_16 8 (dk_at dksX2_readClock_0 10 rfl rfl)
theorem dX2_readClock_12 : decode cX2_readClock 12 = .ok (.if_icmp .ne 10, 3) := dk_160 0 10 (dk_at dksX2_readClock_0 12 rfl rfl)
theorem dX2_readClock_15 : decode cX2_readClock 15 = .ok (.aload_n 0, 1) := dk_42 (dk_at dksX2_readClock_0 15 rfl rfl)
theorem dX2_readClock_16 : decode cX2_readClock 16 = .ok (.iconst 3, 1) := dk_6 (dk_at dksX2_readClock_0 16 rfl rfl)
theorem dX2_readClock_17 : decode cX2_readClock 17 = .ok (.iload_n 1, 1) := dk_27 (dk_at dksX2_readClock_0 17 rfl rfl)
theorem dX2_readClock_18 : decode cX2_readClock 18 = .ok (.invokevirtual 61, 3) := dk_182 0 61 (dk_at dksX2_readClock_0 18 rfl rfl)
theorem dX2_readClock_21 : decode cX2_readClock 21 = .ok (.return_, 1) := dk_177 (dk_at dksX2_readClock_0 21 rfl rfl)
theorem dX2_readClock_22 : decode cX2_readClock 22 = .ok (.aload_n 0, 1) := dk_42 (dk_at dksX2_readClock_0 22 rfl rfl)
theorem dX2_readClock_23 : decode cX2_readClock 23 = .ok (.getfield 7, 3) := dk_180 0 7 (dk_at dksX2_readClock_1 0 rfl rfl)
theorem dX2_readClock_26 : decode cX2_readClock 26 = .ok (.sipush 3651, 3) := dk_17 14 67 (dk_at dksX2_readClock_1 3 rfl rfl)
theorem dX2_readClock_29 : decode cX2_readClock 29 = .ok (.iload_n 2, 1) := dk_28 (dk_at dksX2_readClock_1 6 rfl rfl)
theorem dX2_readClock_30 : decode cX2_readClock 30 = .ok (.iadd, 1) := dk_96 (dk_at dksX2_readClock_1 7 rfl rfl)
theorem dX2_readClock_31 : decode cX2_readClock 31 = .ok (.aload_n 0, 1) := dk_42 (dk_at dksX2_readClock_1 8 rfl rfl)
theorem dX2_readClock_32 : decode cX2_readClock 32 = .ok (.iconst 0, 1) := dk_3 (dk_at dksX2_readClock_1 9 rfl rfl)
theorem dX2_readClock_33 : decode cX2_readClock 33 = .ok (.sipush 9999, 3) := dk_17 39 15 (dk_at dksX2_readClock_1 10 rfl rfl)
theorem dX2_readClock_36 : decode cX2_readClock 36 = .ok (.invokevirtual 65, 3) := dk_182 0 65 (dk_at dksX2_readClock_1 13 rfl rfl)
theorem dX2_readClock_39 : decode cX2_readClock 39 = .ok (.iastore, 1) := dk_79 (dk_at dksX2_readClock_1 16 rfl rfl)
theorem dX2_readClock_40 : decode cX2_readClock 40 = .ok (.aload_n 0, 1) := dk_42 (dk_at dksX2_readClock_1 17 rfl rfl)
theorem dX2_readClock_41 : decode cX2_readClock 41 = .ok (.getfield 7, 3) := dk_180 0 7 (dk_at dksX2_readClock_1 18 rfl rfl)
theorem dX2_readClock_44 : decode cX2_readClock 44 = .ok (.sipush 3659, 3) := dk_17 14 75 (dk_at dksX2_readClock_1 21 rfl rfl)
theorem dX2_readClock_47 : decode cX2_readClock 47 = .ok (.iload_n 2, 1) := dk_28 (dk_at dksX2_readClock_2 0 rfl rfl)
theorem dX2_readClock_48 : decode cX2_readClock 48 = .ok (.iadd, 1) := dk_96 (dk_at dksX2_readClock_2 1 rfl rfl)
theorem dX2_readClock_49 : decode cX2_readClock 49 = .ok (.aload_n 0, 1) := dk_42 (dk_at dksX2_readClock_2 2 rfl rfl)
theorem dX2_readClock_50 : decode cX2_readClock 50 = .ok (.bipush 90, 2) := dk_16 90 (dk_at dksX2_readClock_2 3 rfl rfl)
theorem dX2_readClock_52 : decode cX2_readClock 52 = .ok (.bipush 110, 2) := dk_16 110 (dk_at dksX2_readClock_2 5 rfl rfl)
theorem dX2_readClock_54 : decode cX2_readClock 54 = .ok (.invokevirtual 65, 3) := dk_182 0 65 (dk_at dksX2_readClock_2 7 rfl rfl)
theorem dX2_readClock_57 : decode cX2_readClock 57 = .ok (.iastore, 1) := dk_79 (dk_at dksX2_readClock_2 10 rfl rfl)
theorem dX2_readClock_58 : decode cX2_readClock 58 = .ok (.aload_n 0, 1) := dk_42 (dk_at dksX2_readClock_2 11 rfl rfl)
theorem dX2_readClock_59 : decode cX2_readClock 59 = .ok (.getfield 7, 3) := dk_180 0 7 (dk_at dksX2_readClock_2 12 rfl rfl)
theorem dX2_readClock_62 : decode cX2_readClock 62 = .ok (.sipush 3648, 3) := dk_17 14 64 (dk_at dksX2_readClock_2 15 rfl rfl)
theorem dX2_readClock_65 : decode cX2_readClock 65 = .ok (.dup2, 1) := dk_92 (dk_at dksX2_readClock_2 18 rfl rfl)
theorem dX2_readClock_66 : decode cX2_readClock 66 = .ok (.iaload, 1) := dk_46 (dk_at dksX2_readClock_2 19 rfl rfl)
theorem dX2_readClock_67 : decode cX2_readClock 67 = .ok (.iconst 1, 1) := dk_4 (dk_at dksX2_readClock_2 20 rfl rfl)
theorem dX2_readClock_68 : decode cX2_readClock 68 = .ok (.iadd, 1) := dk_96 (dk_at dksX2_readClock_2 21 rfl rfl)
theorem dX2_readClock_69 : decode cX2_readClock 69 = .ok (.iastore, 1) := dk_79 (dk_at dksX2_readClock_2 22 rfl rfl)
theorem dX2_readClock_70 : decode cX2_readClock 70 = .ok (.return_, 1) := dk_177 (dk_at dksX2_readClock_2 23 rfl rfl)
abbrev cX2_fail : ByteArray := prog_12_method_12_code
def yX2_fail : MethodName := ⟨RX2, "fail", "(II)V"⟩
def dkwX2_fail_0 : List UInt8 := [42, 182, 0, 44, 153, 0, 13, 42, 27, 181, 0, 41, 42, 28, 181, 0, 48, 177]
abbrev dktX2_fail_0 : List UInt8 := dkwX2_fail_0 ++ []
theorem dksX2_fail_0 : cX2_fail.data.toList.drop 0 = dktX2_fail_0 := by decide +kernel
theorem dX2_fail_0 : decode cX2_fail 0 = .ok (.aload_n 0, 1) := dk_42 (dk_at dksX2_fail_0 0 rfl rfl)
theorem dX2_fail_1 : decode cX2_fail 1 = .ok (.invokevirtual 44, 3) := dk_182 0 44 (dk_at dksX2_fail_0 1 rfl rfl)
theorem dX2_fail_4 : decode cX2_fail 4 = .ok (.ifCond .eq 13, 3) := dk_153 0 13 (dk_at dksX2_fail_0 4 rfl rfl)
theorem dX2_fail_7 : decode cX2_fail 7 = .ok (.aload_n 0, 1) := dk_42 (dk_at dksX2_fail_0 7 rfl rfl)
theorem dX2_fail_8 : decode cX2_fail 8 = .ok (.iload_n 1, 1) := dk_27 (dk_at dksX2_fail_0 8 rfl rfl)
theorem dX2_fail_9 : decode cX2_fail 9 = .ok (.putfield 41, 3) := dk_181 0 41 (dk_at dksX2_fail_0 9 rfl rfl)
theorem dX2_fail_12 : decode cX2_fail 12 = .ok (.aload_n 0, 1) := dk_42 (dk_at dksX2_fail_0 12 rfl rfl)
theorem dX2_fail_13 : decode cX2_fail 13 = .ok (.iload_n 2, 1) := dk_28 (dk_at dksX2_fail_0 13 rfl rfl)
theorem dX2_fail_14 : decode cX2_fail 14 = .ok (.putfield 48, 3) := dk_181 0 48 (dk_at dksX2_fail_0 14 rfl rfl)
theorem dX2_fail_17 : decode cX2_fail 17 = .ok (.return_, 1) := dk_177 (dk_at dksX2_fail_0 17 rfl rfl)
abbrev cX2_number : ByteArray := prog_12_method_14_code
def yX2_number : MethodName := ⟨RX2, "number", "(II)I"⟩
def dkwX2_number_6 : List UInt8 := [21, 4, 27, 28, 184, 0, 32, 154, 0, 12, 42, 5, 42, 180, 0, 58, 182, 0, 61, 21, 4, 172]
abbrev dktX2_number_6 : List UInt8 := dkwX2_number_6 ++ []
def dkwX2_number_5 : List UInt8 := [4, 42, 180, 0, 58, 182, 0, 61, 167, 0, 35, 42, 180, 0, 51, 42, 180, 0, 58, 100, 7, 163, 0, 13]
abbrev dktX2_number_5 : List UInt8 := dkwX2_number_5 ++ dktX2_number_6
def dkwX2_number_4 : List UInt8 := [89, 180, 0, 51, 4, 96, 181, 0, 51, 167, 255, 178, 29, 16, 48, 16, 57, 184, 0, 32, 154, 0, 15, 42]
abbrev dktX2_number_4 : List UInt8 := dkwX2_number_4 ++ dktX2_number_5
def dkwX2_number_3 : List UInt8 := [21, 4, 104, 42, 180, 0, 13, 42, 180, 0, 51, 46, 96, 16, 48, 100, 167, 0, 5, 21, 4, 54, 4, 42]
abbrev dktX2_number_3 : List UInt8 := dkwX2_number_3 ++ dktX2_number_4
def dkwX2_number_2 : List UInt8 := [16, 57, 184, 0, 32, 153, 0, 54, 42, 180, 0, 51, 42, 180, 0, 58, 100, 7, 162, 0, 24, 16, 10]
abbrev dktX2_number_2 : List UInt8 := dkwX2_number_2 ++ dktX2_number_3
def dkwX2_number_1 : List UInt8 := [54, 4, 42, 180, 0, 51, 42, 180, 0, 37, 162, 0, 73, 42, 180, 0, 13, 42, 180, 0, 51, 46, 16, 48]
abbrev dktX2_number_1 : List UInt8 := dkwX2_number_1 ++ dktX2_number_2
def dkwX2_number_0 : List UInt8 := [42, 182, 0, 44, 154, 0, 5, 27, 172, 42, 182, 0, 54, 62, 42, 42, 180, 0, 51, 181, 0, 58, 3]
abbrev dktX2_number_0 : List UInt8 := dkwX2_number_0 ++ dktX2_number_1
theorem dksX2_number_0 : cX2_number.data.toList.drop 0 = dktX2_number_0 := by decide +kernel
theorem dksX2_number_1 : cX2_number.data.toList.drop 23 = dktX2_number_1 := dk_seg dksX2_number_0 23 rfl rfl
theorem dksX2_number_2 : cX2_number.data.toList.drop 47 = dktX2_number_2 := dk_seg dksX2_number_1 24 rfl rfl
theorem dksX2_number_3 : cX2_number.data.toList.drop 70 = dktX2_number_3 := dk_seg dksX2_number_2 23 rfl rfl
theorem dksX2_number_4 : cX2_number.data.toList.drop 94 = dktX2_number_4 := dk_seg dksX2_number_3 24 rfl rfl
theorem dksX2_number_5 : cX2_number.data.toList.drop 118 = dktX2_number_5 := dk_seg dksX2_number_4 24 rfl rfl
theorem dksX2_number_6 : cX2_number.data.toList.drop 142 = dktX2_number_6 := dk_seg dksX2_number_5 24 rfl rfl
theorem dX2_number_0 : decode cX2_number 0 = .ok (.aload_n 0, 1) := dk_42 (dk_at dksX2_number_0 0 rfl rfl)
theorem dX2_number_1 : decode cX2_number 1 = .ok (.invokevirtual 44, 3) := dk_182 0 44 (dk_at dksX2_number_0 1 rfl rfl)
theorem dX2_number_4 : decode cX2_number 4 = .ok (.ifCond .ne 5, 3) := dk_154 0 5 (dk_at dksX2_number_0 4 rfl rfl)
theorem dX2_number_7 : decode cX2_number 7 = .ok (.iload_n 1, 1) := dk_27 (dk_at dksX2_number_0 7 rfl rfl)
theorem dX2_number_8 : decode cX2_number 8 = .ok (.ireturn, 1) := dk_172 (dk_at dksX2_number_0 8 rfl rfl)
theorem dX2_number_9 : decode cX2_number 9 = .ok (.aload_n 0, 1) := dk_42 (dk_at dksX2_number_0 9 rfl rfl)
theorem dX2_number_10 : decode cX2_number 10 = .ok (.invokevirtual 54, 3) := dk_182 0 54 (dk_at dksX2_number_0 10 rfl rfl)
theorem dX2_number_13 : decode cX2_number 13 = .ok (.istore_n 3, 1) := dk_62 (dk_at dksX2_number_0 13 rfl rfl)
theorem dX2_number_14 : decode cX2_number 14 = .ok (.aload_n 0, 1) := dk_42 (dk_at dksX2_number_0 14 rfl rfl)
theorem dX2_number_15 : decode cX2_number 15 = .ok (.aload_n 0, 1) := dk_42 (dk_at dksX2_number_0 15 rfl rfl)
theorem dX2_number_16 : decode cX2_number 16 = .ok (.getfield 51, 3) := dk_180 0 51 (dk_at dksX2_number_0 16 rfl rfl)
theorem dX2_number_19 : decode cX2_number 19 = .ok (.putfield 58, 3) := dk_181 0 58 (dk_at dksX2_number_0 19 rfl rfl)
theorem dX2_number_22 : decode cX2_number 22 = .ok (.iconst 0, 1) := dk_3 (dk_at dksX2_number_0 22 rfl rfl)
theorem dX2_number_23 : decode cX2_number 23 = .ok (.istore 4, 2) := dk_54 4 (dk_at dksX2_number_1 0 rfl rfl)
theorem dX2_number_25 : decode cX2_number 25 = .ok (.aload_n 0, 1) := dk_42 (dk_at dksX2_number_1 2 rfl rfl)
theorem dX2_number_26 : decode cX2_number 26 = .ok (.getfield 51, 3) := dk_180 0 51 (dk_at dksX2_number_1 3 rfl rfl)
theorem dX2_number_29 : decode cX2_number 29 = .ok (.aload_n 0, 1) := dk_42 (dk_at dksX2_number_1 6 rfl rfl)
theorem dX2_number_30 : decode cX2_number 30 = .ok (.getfield 37, 3) := dk_180 0 37 (dk_at dksX2_number_1 7 rfl rfl)
theorem dX2_number_33 : decode cX2_number 33 = .ok (.if_icmp .ge 73, 3) := dk_162 0 73 (dk_at dksX2_number_1 10 rfl rfl)
theorem dX2_number_36 : decode cX2_number 36 = .ok (.aload_n 0, 1) := dk_42 (dk_at dksX2_number_1 13 rfl rfl)
theorem dX2_number_37 : decode cX2_number 37 = .ok (.getfield 13, 3) := dk_180 0 13 (dk_at dksX2_number_1 14 rfl rfl)
theorem dX2_number_40 : decode cX2_number 40 = .ok (.aload_n 0, 1) := dk_42 (dk_at dksX2_number_1 17 rfl rfl)
theorem dX2_number_41 : decode cX2_number 41 = .ok (.getfield 51, 3) := dk_180 0 51 (dk_at dksX2_number_1 18 rfl rfl)
theorem dX2_number_44 : decode cX2_number 44 = .ok (.iaload, 1) := dk_46 (dk_at dksX2_number_1 21 rfl rfl)
theorem dX2_number_45 : decode cX2_number 45 = .ok (.bipush 48, 2) := dk_16 48 (dk_at dksX2_number_1 22 rfl rfl)
theorem dX2_number_47 : decode cX2_number 47 = .ok (.bipush 57, 2) := dk_16 57 (dk_at dksX2_number_2 0 rfl rfl)
theorem dX2_number_49 : decode cX2_number 49 = .ok (.invokestatic 32, 3) := dk_184 0 32 (dk_at dksX2_number_2 2 rfl rfl)
theorem dX2_number_52 : decode cX2_number 52 = .ok (.ifCond .eq 54, 3) := dk_153 0 54 (dk_at dksX2_number_2 5 rfl rfl)
theorem dX2_number_55 : decode cX2_number 55 = .ok (.aload_n 0, 1) := dk_42 (dk_at dksX2_number_2 8 rfl rfl)
theorem dX2_number_56 : decode cX2_number 56 = .ok (.getfield 51, 3) := dk_180 0 51 (dk_at dksX2_number_2 9 rfl rfl)
theorem dX2_number_59 : decode cX2_number 59 = .ok (.aload_n 0, 1) := dk_42 (dk_at dksX2_number_2 12 rfl rfl)
theorem dX2_number_60 : decode cX2_number 60 = .ok (.getfield 58, 3) := dk_180 0 58 (dk_at dksX2_number_2 13 rfl rfl)
theorem dX2_number_63 : decode cX2_number 63 = .ok (.isub, 1) := dk_100 (dk_at dksX2_number_2 16 rfl rfl)
theorem dX2_number_64 : decode cX2_number 64 = .ok (.iconst 4, 1) := dk_7 (dk_at dksX2_number_2 17 rfl rfl)
theorem dX2_number_65 : decode cX2_number 65 = .ok (.if_icmp .ge 24, 3) := dk_162 0 24 (dk_at dksX2_number_2 18 rfl rfl)
theorem dX2_number_68 : decode cX2_number 68 = .ok (.bipush 10, 2) := dk_16 10 (dk_at dksX2_number_2 21 rfl rfl)
theorem dX2_number_70 : decode cX2_number 70 = .ok (.iload 4, 2) := dk_21 4 (dk_at dksX2_number_3 0 rfl rfl)
theorem dX2_number_72 : decode cX2_number 72 = .ok (.imul, 1) := dk_104 (dk_at dksX2_number_3 2 rfl rfl)
theorem dX2_number_73 : decode cX2_number 73 = .ok (.aload_n 0, 1) := dk_42 (dk_at dksX2_number_3 3 rfl rfl)
theorem dX2_number_74 : decode cX2_number 74 = .ok (.getfield 13, 3) := dk_180 0 13 (dk_at dksX2_number_3 4 rfl rfl)
theorem dX2_number_77 : decode cX2_number 77 = .ok (.aload_n 0, 1) := dk_42 (dk_at dksX2_number_3 7 rfl rfl)
theorem dX2_number_78 : decode cX2_number 78 = .ok (.getfield 51, 3) := dk_180 0 51 (dk_at dksX2_number_3 8 rfl rfl)
theorem dX2_number_81 : decode cX2_number 81 = .ok (.iaload, 1) := dk_46 (dk_at dksX2_number_3 11 rfl rfl)
theorem dX2_number_82 : decode cX2_number 82 = .ok (.iadd, 1) := dk_96 (dk_at dksX2_number_3 12 rfl rfl)
theorem dX2_number_83 : decode cX2_number 83 = .ok (.bipush 48, 2) := dk_16 48 (dk_at dksX2_number_3 13 rfl rfl)
theorem dX2_number_85 : decode cX2_number 85 = .ok (.isub, 1) := dk_100 (dk_at dksX2_number_3 15 rfl rfl)
theorem dX2_number_86 : decode cX2_number 86 = .ok (.goto 5, 3) := dk_167 0 5 (dk_at dksX2_number_3 16 rfl rfl)
theorem dX2_number_89 : decode cX2_number 89 = .ok (.iload 4, 2) := dk_21 4 (dk_at dksX2_number_3 19 rfl rfl)
theorem dX2_number_91 : decode cX2_number 91 = .ok (.istore 4, 2) := dk_54 4 (dk_at dksX2_number_3 21 rfl rfl)
theorem dX2_number_93 : decode cX2_number 93 = .ok (.aload_n 0, 1) := dk_42 (dk_at dksX2_number_3 23 rfl rfl)
theorem dX2_number_94 : decode cX2_number 94 = .ok (.dup, 1) := dk_89 (dk_at dksX2_number_4 0 rfl rfl)
theorem dX2_number_95 : decode cX2_number 95 = .ok (.getfield 51, 3) := dk_180 0 51 (dk_at dksX2_number_4 1 rfl rfl)
theorem dX2_number_98 : decode cX2_number 98 = .ok (.iconst 1, 1) := dk_4 (dk_at dksX2_number_4 4 rfl rfl)
theorem dX2_number_99 : decode cX2_number 99 = .ok (.iadd, 1) := dk_96 (dk_at dksX2_number_4 5 rfl rfl)
theorem dX2_number_100 : decode cX2_number 100 = .ok (.putfield 51, 3) := dk_181 0 51 (dk_at dksX2_number_4 6 rfl rfl)
theorem dX2_number_103 : decode cX2_number 103 = .ok (.goto (-78), 3) := dk_167 255 178 (dk_at dksX2_number_4 9 rfl rfl)
theorem dX2_number_106 : decode cX2_number 106 = .ok (.iload_n 3, 1) := dk_29 (dk_at dksX2_number_4 12 rfl rfl)
theorem dX2_number_107 : decode cX2_number 107 = .ok (.bipush 48, 2) := dk_16 48 (dk_at dksX2_number_4 13 rfl rfl)
theorem dX2_number_109 : decode cX2_number 109 = .ok (.bipush 57, 2) := dk_16 57 (dk_at dksX2_number_4 15 rfl rfl)
theorem dX2_number_111 : decode cX2_number 111 = .ok (.invokestatic 32, 3) := dk_184 0 32 (dk_at dksX2_number_4 17 rfl rfl)
theorem dX2_number_114 : decode cX2_number 114 = .ok (.ifCond .ne 15, 3) := dk_154 0 15 (dk_at dksX2_number_4 20 rfl rfl)
theorem dX2_number_117 : decode cX2_number 117 = .ok (.aload_n 0, 1) := dk_42 (dk_at dksX2_number_4 23 rfl rfl)
theorem dX2_number_118 : decode cX2_number 118 = .ok (.iconst 1, 1) := dk_4 (dk_at dksX2_number_5 0 rfl rfl)
theorem dX2_number_119 : decode cX2_number 119 = .ok (.aload_n 0, 1) := dk_42 (dk_at dksX2_number_5 1 rfl rfl)
theorem dX2_number_120 : decode cX2_number 120 = .ok (.getfield 58, 3) := dk_180 0 58 (dk_at dksX2_number_5 2 rfl rfl)
theorem dX2_number_123 : decode cX2_number 123 = .ok (.invokevirtual 61, 3) := dk_182 0 61 (dk_at dksX2_number_5 5 rfl rfl)
theorem dX2_number_126 : decode cX2_number 126 = .ok (.goto 35, 3) := dk_167 0 35 (dk_at dksX2_number_5 8 rfl rfl)
theorem dX2_number_129 : decode cX2_number 129 = .ok (.aload_n 0, 1) := dk_42 (dk_at dksX2_number_5 11 rfl rfl)
theorem dX2_number_130 : decode cX2_number 130 = .ok (.getfield 51, 3) := dk_180 0 51 (dk_at dksX2_number_5 12 rfl rfl)
theorem dX2_number_133 : decode cX2_number 133 = .ok (.aload_n 0, 1) := dk_42 (dk_at dksX2_number_5 15 rfl rfl)
theorem dX2_number_134 : decode cX2_number 134 = .ok (.getfield 58, 3) := dk_180 0 58 (dk_at dksX2_number_5 16 rfl rfl)
theorem dX2_number_137 : decode cX2_number 137 = .ok (.isub, 1) := dk_100 (dk_at dksX2_number_5 19 rfl rfl)
theorem dX2_number_138 : decode cX2_number 138 = .ok (.iconst 4, 1) := dk_7 (dk_at dksX2_number_5 20 rfl rfl)
theorem dX2_number_139 : decode cX2_number 139 = .ok (.if_icmp .gt 13, 3) := dk_163 0 13 (dk_at dksX2_number_5 21 rfl rfl)
theorem dX2_number_142 : decode cX2_number 142 = .ok (.iload 4, 2) := dk_21 4 (dk_at dksX2_number_6 0 rfl rfl)
theorem dX2_number_144 : decode cX2_number 144 = .ok (.iload_n 1, 1) := dk_27 (dk_at dksX2_number_6 2 rfl rfl)
theorem dX2_number_145 : decode cX2_number 145 = .ok (.iload_n 2, 1) := dk_28 (dk_at dksX2_number_6 3 rfl rfl)
theorem dX2_number_146 : decode cX2_number 146 = .ok (.invokestatic 32, 3) := dk_184 0 32 (dk_at dksX2_number_6 4 rfl rfl)
theorem dX2_number_149 : decode cX2_number 149 = .ok (.ifCond .ne 12, 3) := dk_154 0 12 (dk_at dksX2_number_6 7 rfl rfl)
theorem dX2_number_152 : decode cX2_number 152 = .ok (.aload_n 0, 1) := dk_42 (dk_at dksX2_number_6 10 rfl rfl)
theorem dX2_number_153 : decode cX2_number 153 = .ok (.iconst 2, 1) := dk_5 (dk_at dksX2_number_6 11 rfl rfl)
theorem dX2_number_154 : decode cX2_number 154 = .ok (.aload_n 0, 1) := dk_42 (dk_at dksX2_number_6 12 rfl rfl)
theorem dX2_number_155 : decode cX2_number 155 = .ok (.getfield 58, 3) := dk_180 0 58 (dk_at dksX2_number_6 13 rfl rfl)
theorem dX2_number_158 : decode cX2_number 158 = .ok (.invokevirtual 61, 3) := dk_182 0 61 (dk_at dksX2_number_6 16 rfl rfl)
theorem dX2_number_161 : decode cX2_number 161 = .ok (.iload 4, 2) := dk_21 4 (dk_at dksX2_number_6 19 rfl rfl)
theorem dX2_number_163 : decode cX2_number 163 = .ok (.ireturn, 1) := dk_172 (dk_at dksX2_number_6 21 rfl rfl)
abbrev cX2_readOther : ByteArray := prog_12_method_16_code
def yX2_readOther : MethodName := ⟨RX2, "readOther", "(II)V"⟩
def dkwX2_readOther_7 : List UInt8 := [180, 0, 7, 17, 14, 91, 21, 4, 96, 4, 79, 167, 0, 9, 42, 4, 28, 182, 0, 61, 177]
abbrev dktX2_readOther_7 : List UInt8 := dkwX2_readOther_7 ++ []
def dkwX2_readOther_6 : List UInt8 := [96, 46, 4, 160, 0, 12, 42, 7, 42, 180, 0, 58, 182, 0, 61, 42, 182, 0, 44, 153, 0, 15, 42]
abbrev dktX2_readOther_6 : List UInt8 := dkwX2_readOther_6 ++ dktX2_readOther_7
def dkwX2_readOther_5 : List UInt8 := [46, 4, 100, 182, 0, 65, 54, 4, 42, 182, 0, 44, 153, 0, 27, 42, 180, 0, 7, 17, 14, 91, 21, 4]
abbrev dktX2_readOther_5 : List UInt8 := dkwX2_readOther_5 ++ dktX2_readOther_6
def dkwX2_readOther_4 : List UInt8 := [16, 80, 182, 0, 65, 79, 167, 0, 85, 27, 16, 108, 160, 0, 73, 42, 3, 42, 180, 0, 7, 17, 14, 64]
abbrev dktX2_readOther_4 : List UInt8 := dkwX2_readOther_4 ++ dktX2_readOther_5
def dkwX2_readOther_3 : List UInt8 := [167, 0, 114, 27, 16, 115, 160, 0, 26, 42, 4, 181, 0, 72, 42, 180, 0, 7, 17, 14, 66, 42, 3]
abbrev dktX2_readOther_3 : List UInt8 := dkwX2_readOther_3 ++ dktX2_readOther_4
def dkwX2_readOther_2 : List UInt8 := [16, 102, 160, 0, 25, 42, 4, 181, 0, 69, 42, 180, 0, 7, 17, 14, 65, 42, 3, 6, 182, 0, 65, 79]
abbrev dktX2_readOther_2 : List UInt8 := dkwX2_readOther_2 ++ dktX2_readOther_3
def dkwX2_readOther_1 : List UInt8 := [4, 160, 0, 7, 4, 167, 0, 4, 3, 62, 29, 153, 0, 12, 42, 7, 28, 182, 0, 61, 167, 0, 142, 27]
abbrev dktX2_readOther_1 : List UInt8 := dkwX2_readOther_1 ++ dktX2_readOther_2
def dkwX2_readOther_0 : List UInt8 := [27, 16, 102, 160, 0, 11, 42, 180, 0, 69, 4, 159, 0, 17, 27, 16, 115, 160, 0, 15, 42, 180, 0, 72]
abbrev dktX2_readOther_0 : List UInt8 := dkwX2_readOther_0 ++ dktX2_readOther_1
theorem dksX2_readOther_0 : cX2_readOther.data.toList.drop 0 = dktX2_readOther_0 := by decide +kernel
theorem dksX2_readOther_1 : cX2_readOther.data.toList.drop 24 = dktX2_readOther_1 := dk_seg dksX2_readOther_0 24 rfl rfl
theorem dksX2_readOther_2 : cX2_readOther.data.toList.drop 48 = dktX2_readOther_2 := dk_seg dksX2_readOther_1 24 rfl rfl
theorem dksX2_readOther_3 : cX2_readOther.data.toList.drop 72 = dktX2_readOther_3 := dk_seg dksX2_readOther_2 24 rfl rfl
theorem dksX2_readOther_4 : cX2_readOther.data.toList.drop 95 = dktX2_readOther_4 := dk_seg dksX2_readOther_3 23 rfl rfl
theorem dksX2_readOther_5 : cX2_readOther.data.toList.drop 119 = dktX2_readOther_5 := dk_seg dksX2_readOther_4 24 rfl rfl
theorem dksX2_readOther_6 : cX2_readOther.data.toList.drop 143 = dktX2_readOther_6 := dk_seg dksX2_readOther_5 24 rfl rfl
theorem dksX2_readOther_7 : cX2_readOther.data.toList.drop 166 = dktX2_readOther_7 := dk_seg dksX2_readOther_6 23 rfl rfl
theorem dX2_readOther_0 : decode cX2_readOther 0 = .ok (.iload_n 1, 1) := dk_27 (dk_at dksX2_readOther_0 0 rfl rfl)
theorem dX2_readOther_1 : decode cX2_readOther 1 = .ok (.bipush 102, 2) := dk_16 102 (dk_at dksX2_readOther_0 1 rfl rfl)
theorem dX2_readOther_3 : decode cX2_readOther 3 = .ok (.if_icmp .ne 11, 3) := dk_160 0 11 (dk_at dksX2_readOther_0 3 rfl rfl)
theorem dX2_readOther_6 : decode cX2_readOther 6 = .ok (.aload_n 0, 1) := dk_42 (dk_at dksX2_readOther_0 6 rfl rfl)
theorem dX2_readOther_7 : decode cX2_readOther 7 = .ok (.getfield 69, 3) := dk_180 0 69 (dk_at dksX2_readOther_0 7 rfl rfl)
theorem dX2_readOther_10 : decode cX2_readOther 10 = .ok (.iconst 1, 1) := dk_4 (dk_at dksX2_readOther_0 10 rfl rfl)
theorem dX2_readOther_11 : decode cX2_readOther 11 = .ok (.if_icmp .eq 17, 3) := dk_159 0 17 (dk_at dksX2_readOther_0 11 rfl rfl)
theorem dX2_readOther_14 : decode cX2_readOther 14 = .ok (.iload_n 1, 1) := dk_27 (dk_at dksX2_readOther_0 14 rfl rfl)
theorem dX2_readOther_15 : decode cX2_readOther 15 = .ok (.bipush 115, 2) := dk_16 115 (dk_at dksX2_readOther_0 15 rfl rfl)
theorem dX2_readOther_17 : decode cX2_readOther 17 = .ok (.if_icmp .ne 15, 3) := dk_160 0 15 (dk_at dksX2_readOther_0 17 rfl rfl)
theorem dX2_readOther_20 : decode cX2_readOther 20 = .ok (.aload_n 0, 1) := dk_42 (dk_at dksX2_readOther_0 20 rfl rfl)
theorem dX2_readOther_21 : decode cX2_readOther 21 = .ok (.getfield 72, 3) := dk_180 0 72 (dk_at dksX2_readOther_0 21 rfl rfl)
theorem dX2_readOther_24 : decode cX2_readOther 24 = .ok (.iconst 1, 1) := dk_4 (dk_at dksX2_readOther_1 0 rfl rfl)
theorem dX2_readOther_25 : decode cX2_readOther 25 = .ok (.if_icmp .ne 7, 3) := dk_160 0 7 (dk_at dksX2_readOther_1 1 rfl rfl)
theorem dX2_readOther_28 : decode cX2_readOther 28 = .ok (.iconst 1, 1) := dk_4 (dk_at dksX2_readOther_1 4 rfl rfl)
theorem dX2_readOther_29 : decode cX2_readOther 29 = .ok (.goto 4, 3) := dk_167 0 4 (dk_at dksX2_readOther_1 5 rfl rfl)
theorem dX2_readOther_32 : decode cX2_readOther 32 = .ok (.iconst 0, 1) := dk_3 (dk_at dksX2_readOther_1 8 rfl rfl)
theorem dX2_readOther_33 : decode cX2_readOther 33 = .ok (.istore_n 3, 1) := dk_62 (dk_at dksX2_readOther_1 9 rfl rfl)
theorem dX2_readOther_34 : decode cX2_readOther 34 = .ok (.iload_n 3, 1) := dk_29 (dk_at dksX2_readOther_1 10 rfl rfl)
theorem dX2_readOther_35 : decode cX2_readOther 35 = .ok (.ifCond .eq 12, 3) := dk_153 0 12 (dk_at dksX2_readOther_1 11 rfl rfl)
theorem dX2_readOther_38 : decode cX2_readOther 38 = .ok (.aload_n 0, 1) := dk_42 (dk_at dksX2_readOther_1 14 rfl rfl)
theorem dX2_readOther_39 : decode cX2_readOther 39 = .ok (.iconst 4, 1) := dk_7 (dk_at dksX2_readOther_1 15 rfl rfl)
theorem dX2_readOther_40 : decode cX2_readOther 40 = .ok (.iload_n 2, 1) := dk_28 (dk_at dksX2_readOther_1 16 rfl rfl)
theorem dX2_readOther_41 : decode cX2_readOther 41 = .ok (.invokevirtual 61, 3) := dk_182 0 61 (dk_at dksX2_readOther_1 17 rfl rfl)
theorem dX2_readOther_44 : decode cX2_readOther 44 = .ok (.goto 142, 3) := dk_167 0 142 (dk_at dksX2_readOther_1 20 rfl rfl)
theorem dX2_readOther_47 : decode cX2_readOther 47 = .ok (.iload_n 1, 1) := dk_27 (dk_at dksX2_readOther_1 23 rfl rfl)
theorem dX2_readOther_48 : decode cX2_readOther 48 = .ok (.bipush 102, 2) := dk_16 102 (dk_at dksX2_readOther_2 0 rfl rfl)
theorem dX2_readOther_50 : decode cX2_readOther 50 = .ok (.if_icmp .ne 25, 3) := dk_160 0 25 (dk_at dksX2_readOther_2 2 rfl rfl)
theorem dX2_readOther_53 : decode cX2_readOther 53 = .ok (.aload_n 0, 1) := dk_42 (dk_at dksX2_readOther_2 5 rfl rfl)
theorem dX2_readOther_54 : decode cX2_readOther 54 = .ok (.iconst 1, 1) := dk_4 (dk_at dksX2_readOther_2 6 rfl rfl)
theorem dX2_readOther_55 : decode cX2_readOther 55 = .ok (.putfield 69, 3) := dk_181 0 69 (dk_at dksX2_readOther_2 7 rfl rfl)
theorem dX2_readOther_58 : decode cX2_readOther 58 = .ok (.aload_n 0, 1) := dk_42 (dk_at dksX2_readOther_2 10 rfl rfl)
theorem dX2_readOther_59 : decode cX2_readOther 59 = .ok (.getfield 7, 3) := dk_180 0 7 (dk_at dksX2_readOther_2 11 rfl rfl)
theorem dX2_readOther_62 : decode cX2_readOther 62 = .ok (.sipush 3649, 3) := dk_17 14 65 (dk_at dksX2_readOther_2 14 rfl rfl)
theorem dX2_readOther_65 : decode cX2_readOther 65 = .ok (.aload_n 0, 1) := dk_42 (dk_at dksX2_readOther_2 17 rfl rfl)
theorem dX2_readOther_66 : decode cX2_readOther 66 = .ok (.iconst 0, 1) := dk_3 (dk_at dksX2_readOther_2 18 rfl rfl)
theorem dX2_readOther_67 : decode cX2_readOther 67 = .ok (.iconst 3, 1) := dk_6 (dk_at dksX2_readOther_2 19 rfl rfl)
theorem dX2_readOther_68 : decode cX2_readOther 68 = .ok (.invokevirtual 65, 3) := dk_182 0 65 (dk_at dksX2_readOther_2 20 rfl rfl)
theorem dX2_readOther_71 : decode cX2_readOther 71 = .ok (.iastore, 1) := dk_79 (dk_at dksX2_readOther_2 23 rfl rfl)
theorem dX2_readOther_72 : decode cX2_readOther 72 = .ok (.goto 114, 3) := dk_167 0 114 (dk_at dksX2_readOther_3 0 rfl rfl)
theorem dX2_readOther_75 : decode cX2_readOther 75 = .ok (.iload_n 1, 1) := dk_27 (dk_at dksX2_readOther_3 3 rfl rfl)
theorem dX2_readOther_76 : decode cX2_readOther 76 = .ok (.bipush 115, 2) := dk_16 115 (dk_at dksX2_readOther_3 4 rfl rfl)
theorem dX2_readOther_78 : decode cX2_readOther 78 = .ok (.if_icmp .ne 26, 3) := dk_160 0 26 (dk_at dksX2_readOther_3 6 rfl rfl)
theorem dX2_readOther_81 : decode cX2_readOther 81 = .ok (.aload_n 0, 1) := dk_42 (dk_at dksX2_readOther_3 9 rfl rfl)
theorem dX2_readOther_82 : decode cX2_readOther 82 = .ok (.iconst 1, 1) := dk_4 (dk_at dksX2_readOther_3 10 rfl rfl)
theorem dX2_readOther_83 : decode cX2_readOther 83 = .ok (.putfield 72, 3) := dk_181 0 72 (dk_at dksX2_readOther_3 11 rfl rfl)
theorem dX2_readOther_86 : decode cX2_readOther 86 = .ok (.aload_n 0, 1) := dk_42 (dk_at dksX2_readOther_3 14 rfl rfl)
theorem dX2_readOther_87 : decode cX2_readOther 87 = .ok (.getfield 7, 3) := dk_180 0 7 (dk_at dksX2_readOther_3 15 rfl rfl)
theorem dX2_readOther_90 : decode cX2_readOther 90 = .ok (.sipush 3650, 3) := dk_17 14 66 (dk_at dksX2_readOther_3 18 rfl rfl)
theorem dX2_readOther_93 : decode cX2_readOther 93 = .ok (.aload_n 0, 1) := dk_42 (dk_at dksX2_readOther_3 21 rfl rfl)
theorem dX2_readOther_94 : decode cX2_readOther 94 = .ok (.iconst 0, 1) := dk_3 (dk_at dksX2_readOther_3 22 rfl rfl)
theorem dX2_readOther_95 : decode cX2_readOther 95 = .ok (.bipush 80, 2) := dk_16 80 (dk_at dksX2_readOther_4 0 rfl rfl)
theorem dX2_readOther_97 : decode cX2_readOther 97 = .ok (.invokevirtual 65, 3) := dk_182 0 65 (dk_at dksX2_readOther_4 2 rfl rfl)
theorem dX2_readOther_100 : decode cX2_readOther 100 = .ok (.iastore, 1) := dk_79 (dk_at dksX2_readOther_4 5 rfl rfl)
theorem dX2_readOther_101 : decode cX2_readOther 101 = .ok (.goto 85, 3) := dk_167 0 85 (dk_at dksX2_readOther_4 6 rfl rfl)
theorem dX2_readOther_104 : decode cX2_readOther 104 = .ok (.iload_n 1, 1) := dk_27 (dk_at dksX2_readOther_4 9 rfl rfl)
theorem dX2_readOther_105 : decode cX2_readOther 105 = .ok (.bipush 108, 2) := dk_16 108 (dk_at dksX2_readOther_4 10 rfl rfl)
theorem dX2_readOther_107 : decode cX2_readOther 107 = .ok (.if_icmp .ne 73, 3) := dk_160 0 73 (dk_at dksX2_readOther_4 12 rfl rfl)
theorem dX2_readOther_110 : decode cX2_readOther 110 = .ok (.aload_n 0, 1) := dk_42 (dk_at dksX2_readOther_4 15 rfl rfl)
theorem dX2_readOther_111 : decode cX2_readOther 111 = .ok (.iconst 0, 1) := dk_3 (dk_at dksX2_readOther_4 16 rfl rfl)
theorem dX2_readOther_112 : decode cX2_readOther 112 = .ok (.aload_n 0, 1) := dk_42 (dk_at dksX2_readOther_4 17 rfl rfl)
theorem dX2_readOther_113 : decode cX2_readOther 113 = .ok (.getfield 7, 3) := dk_180 0 7 (dk_at dksX2_readOther_4 18 rfl rfl)
theorem dX2_readOther_116 : decode cX2_readOther 116 = .ok (.sipush 3648, 3) := dk_17 14 64 (dk_at dksX2_readOther_4 21 rfl rfl)
theorem dX2_readOther_119 : decode cX2_readOther 119 = .ok (.iaload, 1) := dk_46 (dk_at dksX2_readOther_5 0 rfl rfl)
theorem dX2_readOther_120 : decode cX2_readOther 120 = .ok (.iconst 1, 1) := dk_4 (dk_at dksX2_readOther_5 1 rfl rfl)
theorem dX2_readOther_121 : decode cX2_readOther 121 = .ok (.isub, 1) := dk_100 (dk_at dksX2_readOther_5 2 rfl rfl)
theorem dX2_readOther_122 : decode cX2_readOther 122 = .ok (.invokevirtual 65, 3) := dk_182 0 65 (dk_at dksX2_readOther_5 3 rfl rfl)
theorem dX2_readOther_125 : decode cX2_readOther 125 = .ok (.istore 4, 2) := dk_54 4 (dk_at dksX2_readOther_5 6 rfl rfl)
theorem dX2_readOther_127 : decode cX2_readOther 127 = .ok (.aload_n 0, 1) := dk_42 (dk_at dksX2_readOther_5 8 rfl rfl)
theorem dX2_readOther_128 : decode cX2_readOther 128 = .ok (.invokevirtual 44, 3) := dk_182 0 44 (dk_at dksX2_readOther_5 9 rfl rfl)
theorem dX2_readOther_131 : decode cX2_readOther 131 = .ok (.ifCond .eq 27, 3) := dk_153 0 27 (dk_at dksX2_readOther_5 12 rfl rfl)
theorem dX2_readOther_134 : decode cX2_readOther 134 = .ok (.aload_n 0, 1) := dk_42 (dk_at dksX2_readOther_5 15 rfl rfl)
theorem dX2_readOther_135 : decode cX2_readOther 135 = .ok (.getfield 7, 3) := dk_180 0 7 (dk_at dksX2_readOther_5 16 rfl rfl)
theorem dX2_readOther_138 : decode cX2_readOther 138 = .ok (.sipush 3675, 3) := dk_17 14 91 (dk_at dksX2_readOther_5 19 rfl rfl)
theorem dX2_readOther_141 : decode cX2_readOther 141 = .ok (.iload 4, 2) := dk_21 4 (dk_at dksX2_readOther_5 22 rfl rfl)
theorem dX2_readOther_143 : decode cX2_readOther 143 = .ok (.iadd, 1) := dk_96 (dk_at dksX2_readOther_6 0 rfl rfl)
theorem dX2_readOther_144 : decode cX2_readOther 144 = .ok (.iaload, 1) := dk_46 (dk_at dksX2_readOther_6 1 rfl rfl)
theorem dX2_readOther_145 : decode cX2_readOther 145 = .ok (.iconst 1, 1) := dk_4 (dk_at dksX2_readOther_6 2 rfl rfl)
theorem dX2_readOther_146 : decode cX2_readOther 146 = .ok (.if_icmp .ne 12, 3) := dk_160 0 12 (dk_at dksX2_readOther_6 3 rfl rfl)
theorem dX2_readOther_149 : decode cX2_readOther 149 = .ok (.aload_n 0, 1) := dk_42 (dk_at dksX2_readOther_6 6 rfl rfl)
theorem dX2_readOther_150 : decode cX2_readOther 150 = .ok (.iconst 4, 1) := dk_7 (dk_at dksX2_readOther_6 7 rfl rfl)
theorem dX2_readOther_151 : decode cX2_readOther 151 = .ok (.aload_n 0, 1) := dk_42 (dk_at dksX2_readOther_6 8 rfl rfl)
theorem dX2_readOther_152 : decode cX2_readOther 152 = .ok (.getfield 58, 3) := dk_180 0 58 (dk_at dksX2_readOther_6 9 rfl rfl)
theorem dX2_readOther_155 : decode cX2_readOther 155 = .ok (.invokevirtual 61, 3) := dk_182 0 61 (dk_at dksX2_readOther_6 12 rfl rfl)
theorem dX2_readOther_158 : decode cX2_readOther 158 = .ok (.aload_n 0, 1) := dk_42 (dk_at dksX2_readOther_6 15 rfl rfl)
theorem dX2_readOther_159 : decode cX2_readOther 159 = .ok (.invokevirtual 44, 3) := dk_182 0 44 (dk_at dksX2_readOther_6 16 rfl rfl)
theorem dX2_readOther_162 : decode cX2_readOther 162 = .ok (.ifCond .eq 15, 3) := dk_153 0 15 (dk_at dksX2_readOther_6 19 rfl rfl)
theorem dX2_readOther_165 : decode cX2_readOther 165 = .ok (.aload_n 0, 1) := dk_42 (dk_at dksX2_readOther_6 22 rfl rfl)
theorem dX2_readOther_166 : decode cX2_readOther 166 = .ok (.getfield 7, 3) := dk_180 0 7 (dk_at dksX2_readOther_7 0 rfl rfl)
theorem dX2_readOther_169 : decode cX2_readOther 169 = .ok (.sipush 3675, 3) := dk_17 14 91 (dk_at dksX2_readOther_7 3 rfl rfl)
theorem dX2_readOther_172 : decode cX2_readOther 172 = .ok (.iload 4, 2) := dk_21 4 (dk_at dksX2_readOther_7 6 rfl rfl)
theorem dX2_readOther_174 : decode cX2_readOther 174 = .ok (.iadd, 1) := dk_96 (dk_at dksX2_readOther_7 8 rfl rfl)
theorem dX2_readOther_175 : decode cX2_readOther 175 = .ok (.iconst 1, 1) := dk_4 (dk_at dksX2_readOther_7 9 rfl rfl)
theorem dX2_readOther_176 : decode cX2_readOther 176 = .ok (.iastore, 1) := dk_79 (dk_at dksX2_readOther_7 10 rfl rfl)
theorem dX2_readOther_177 : decode cX2_readOther 177 = .ok (.goto 9, 3) := dk_167 0 9 (dk_at dksX2_readOther_7 11 rfl rfl)
theorem dX2_readOther_180 : decode cX2_readOther 180 = .ok (.aload_n 0, 1) := dk_42 (dk_at dksX2_readOther_7 14 rfl rfl)
theorem dX2_readOther_181 : decode cX2_readOther 181 = .ok (.iconst 1, 1) := dk_4 (dk_at dksX2_readOther_7 15 rfl rfl)
theorem dX2_readOther_182 : decode cX2_readOther 182 = .ok (.iload_n 2, 1) := dk_28 (dk_at dksX2_readOther_7 16 rfl rfl)
theorem dX2_readOther_183 : decode cX2_readOther 183 = .ok (.invokevirtual 61, 3) := dk_182 0 61 (dk_at dksX2_readOther_7 17 rfl rfl)
theorem dX2_readOther_186 : decode cX2_readOther 186 = .ok (.return_, 1) := dk_177 (dk_at dksX2_readOther_7 20 rfl rfl)
abbrev cX2_copyRow : ByteArray := prog_12_method_5_code
def yX2_copyRow : MethodName := ⟨RX2, "copyRow", "(II)V"⟩
def dkwX2_copyRow_1 : List UInt8 := [79, 132, 3, 1, 167, 255, 230, 177]
abbrev dktX2_copyRow_1 : List UInt8 := dkwX2_copyRow_1 ++ []
def dkwX2_copyRow_0 : List UInt8 := [3, 62, 29, 17, 0, 192, 162, 0, 25, 42, 180, 0, 7, 28, 29, 96, 42, 180, 0, 7, 27, 29, 96, 46]
abbrev dktX2_copyRow_0 : List UInt8 := dkwX2_copyRow_0 ++ dktX2_copyRow_1
theorem dksX2_copyRow_0 : cX2_copyRow.data.toList.drop 0 = dktX2_copyRow_0 := by decide +kernel
theorem dksX2_copyRow_1 : cX2_copyRow.data.toList.drop 24 = dktX2_copyRow_1 := dk_seg dksX2_copyRow_0 24 rfl rfl
theorem dX2_copyRow_0 : decode cX2_copyRow 0 = .ok (.iconst 0, 1) := dk_3 (dk_at dksX2_copyRow_0 0 rfl rfl)
theorem dX2_copyRow_1 : decode cX2_copyRow 1 = .ok (.istore_n 3, 1) := dk_62 (dk_at dksX2_copyRow_0 1 rfl rfl)
theorem dX2_copyRow_2 : decode cX2_copyRow 2 = .ok (.iload_n 3, 1) := dk_29 (dk_at dksX2_copyRow_0 2 rfl rfl)
theorem dX2_copyRow_3 : decode cX2_copyRow 3 = .ok (.sipush 192, 3) := dk_17 0 192 (dk_at dksX2_copyRow_0 3 rfl rfl)
theorem dX2_copyRow_6 : decode cX2_copyRow 6 = .ok (.if_icmp .ge 25, 3) := dk_162 0 25 (dk_at dksX2_copyRow_0 6 rfl rfl)
theorem dX2_copyRow_9 : decode cX2_copyRow 9 = .ok (.aload_n 0, 1) := dk_42 (dk_at dksX2_copyRow_0 9 rfl rfl)
theorem dX2_copyRow_10 : decode cX2_copyRow 10 = .ok (.getfield 7, 3) := dk_180 0 7 (dk_at dksX2_copyRow_0 10 rfl rfl)
theorem dX2_copyRow_13 : decode cX2_copyRow 13 = .ok (.iload_n 2, 1) := dk_28 (dk_at dksX2_copyRow_0 13 rfl rfl)
theorem dX2_copyRow_14 : decode cX2_copyRow 14 = .ok (.iload_n 3, 1) := dk_29 (dk_at dksX2_copyRow_0 14 rfl rfl)
theorem dX2_copyRow_15 : decode cX2_copyRow 15 = .ok (.iadd, 1) := dk_96 (dk_at dksX2_copyRow_0 15 rfl rfl)
theorem dX2_copyRow_16 : decode cX2_copyRow 16 = .ok (.aload_n 0, 1) := dk_42 (dk_at dksX2_copyRow_0 16 rfl rfl)
theorem dX2_copyRow_17 : decode cX2_copyRow 17 = .ok (.getfield 7, 3) := dk_180 0 7 (dk_at dksX2_copyRow_0 17 rfl rfl)
theorem dX2_copyRow_20 : decode cX2_copyRow 20 = .ok (.iload_n 1, 1) := dk_27 (dk_at dksX2_copyRow_0 20 rfl rfl)
theorem dX2_copyRow_21 : decode cX2_copyRow 21 = .ok (.iload_n 3, 1) := dk_29 (dk_at dksX2_copyRow_0 21 rfl rfl)
theorem dX2_copyRow_22 : decode cX2_copyRow 22 = .ok (.iadd, 1) := dk_96 (dk_at dksX2_copyRow_0 22 rfl rfl)
theorem dX2_copyRow_23 : decode cX2_copyRow 23 = .ok (.iaload, 1) := dk_46 (dk_at dksX2_copyRow_0 23 rfl rfl)
theorem dX2_copyRow_24 : decode cX2_copyRow 24 = .ok (.iastore, 1) := dk_79 (dk_at dksX2_copyRow_1 0 rfl rfl)
theorem dX2_copyRow_25 : decode cX2_copyRow 25 = .ok (.iinc 3 1, 3) := dk_132 3 1 (dk_at dksX2_copyRow_1 1 rfl rfl)
theorem dX2_copyRow_28 : decode cX2_copyRow 28 = .ok (.goto (-26), 3) := dk_167 255 230 (dk_at dksX2_copyRow_1 4 rfl rfl)
theorem dX2_copyRow_31 : decode cX2_copyRow 31 = .ok (.return_, 1) := dk_177 (dk_at dksX2_copyRow_1 7 rfl rfl)
abbrev cX2_fault : ByteArray := prog_12_method_19_code
def yX2_fault : MethodName := ⟨RX2, "fault", "()I"⟩
theorem dX2_fault_0 : decode cX2_fault 0 = .ok (.aload_n 0, 1) := by decide +kernel
theorem dX2_fault_1 : decode cX2_fault 1 = .ok (.getfield 16, 3) := by decide +kernel
theorem dX2_fault_4 : decode cX2_fault 4 = .ok (.ireturn, 1) := by decide +kernel
abbrev cX2_told : ByteArray := prog_12_method_37_code
def yX2_told : MethodName := ⟨RX2, "told", "(I)I"⟩
def dkwX2_told_5 : List UInt8 := [17, 0, 190, 46, 172, 42, 180, 0, 94, 172, 42, 182, 0, 152, 172, 42, 180, 0, 88, 172, 18, 36, 172]
abbrev dktX2_told_5 : List UInt8 := dkwX2_told_5 ++ []
def dkwX2_told_4 : List UInt8 := [182, 0, 146, 172, 42, 180, 0, 7, 17, 0, 171, 46, 172, 42, 182, 0, 149, 172, 42, 180, 0, 7]
abbrev dktX2_told_4 : List UInt8 := dkwX2_told_4 ++ dktX2_told_5
def dkwX2_told_3 : List UInt8 := [180, 0, 37, 172, 42, 27, 182, 0, 140, 172, 42, 3, 182, 0, 123, 172, 42, 182, 0, 143, 172, 42]
abbrev dktX2_told_3 : List UInt8 := dkwX2_told_3 ++ dktX2_told_4
def dkwX2_told_2 : List UInt8 := [42, 180, 0, 7, 3, 46, 172, 42, 180, 0, 7, 4, 46, 172, 42, 180, 0, 7, 5, 46, 172, 42]
abbrev dktX2_told_2 : List UInt8 := dkwX2_told_2 ++ dktX2_told_3
def dkwX2_told_1 : List UInt8 := [170, 0, 0, 0, 0, 0, 165, 0, 0, 0, 0, 0, 0, 0, 15, 0, 0, 0, 79, 0, 0, 0, 86, 0, 0, 0, 93, 0, 0, 0, 100, 0, 0, 0, 105, 0, 0, 0, 105, 0, 0, 0, 105, 0, 0, 0, 111, 0, 0, 0, 117, 0, 0, 0, 122, 0, 0, 0, 127, 0, 0, 0, 136, 0, 0, 0, 141, 0, 0, 0, 150, 0, 0, 0, 155, 0, 0, 0, 160]
abbrev dktX2_told_1 : List UInt8 := dkwX2_told_1 ++ dktX2_told_2
def dkwX2_told_0 : List UInt8 := [27]
abbrev dktX2_told_0 : List UInt8 := dkwX2_told_0 ++ dktX2_told_1
theorem dksX2_told_0 : cX2_told.data.toList.drop 0 = dktX2_told_0 := by decide +kernel
theorem dksX2_told_1 : cX2_told.data.toList.drop 1 = dktX2_told_1 := dk_seg dksX2_told_0 1 rfl rfl
theorem dksX2_told_2 : cX2_told.data.toList.drop 80 = dktX2_told_2 := dk_seg dksX2_told_1 79 rfl rfl
theorem dksX2_told_3 : cX2_told.data.toList.drop 102 = dktX2_told_3 := dk_seg dksX2_told_2 22 rfl rfl
theorem dksX2_told_4 : cX2_told.data.toList.drop 124 = dktX2_told_4 := dk_seg dksX2_told_3 22 rfl rfl
theorem dksX2_told_5 : cX2_told.data.toList.drop 146 = dktX2_told_5 := dk_seg dksX2_told_4 22 rfl rfl
theorem dX2_told_0 : decode cX2_told 0 = .ok (.iload_n 1, 1) := dk_27 (dk_at dksX2_told_0 0 rfl rfl)
theorem dX2_told_1 : decode cX2_told 1 = .ok (.tableswitch 165 0 15 #[79, 86, 93, 100, 105, 105, 105, 111, 117, 122, 127, 136, 141, 150, 155, 160], 79) := by decide +kernel
theorem dX2_told_80 : decode cX2_told 80 = .ok (.aload_n 0, 1) := dk_42 (dk_at dksX2_told_2 0 rfl rfl)
theorem dX2_told_81 : decode cX2_told 81 = .ok (.getfield 7, 3) := dk_180 0 7 (dk_at dksX2_told_2 1 rfl rfl)
theorem dX2_told_84 : decode cX2_told 84 = .ok (.iconst 0, 1) := dk_3 (dk_at dksX2_told_2 4 rfl rfl)
theorem dX2_told_85 : decode cX2_told 85 = .ok (.iaload, 1) := dk_46 (dk_at dksX2_told_2 5 rfl rfl)
theorem dX2_told_86 : decode cX2_told 86 = .ok (.ireturn, 1) := dk_172 (dk_at dksX2_told_2 6 rfl rfl)
theorem dX2_told_87 : decode cX2_told 87 = .ok (.aload_n 0, 1) := dk_42 (dk_at dksX2_told_2 7 rfl rfl)
theorem dX2_told_88 : decode cX2_told 88 = .ok (.getfield 7, 3) := dk_180 0 7 (dk_at dksX2_told_2 8 rfl rfl)
theorem dX2_told_91 : decode cX2_told 91 = .ok (.iconst 1, 1) := dk_4 (dk_at dksX2_told_2 11 rfl rfl)
theorem dX2_told_92 : decode cX2_told 92 = .ok (.iaload, 1) := dk_46 (dk_at dksX2_told_2 12 rfl rfl)
theorem dX2_told_93 : decode cX2_told 93 = .ok (.ireturn, 1) := dk_172 (dk_at dksX2_told_2 13 rfl rfl)
theorem dX2_told_94 : decode cX2_told 94 = .ok (.aload_n 0, 1) := dk_42 (dk_at dksX2_told_2 14 rfl rfl)
theorem dX2_told_95 : decode cX2_told 95 = .ok (.getfield 7, 3) := dk_180 0 7 (dk_at dksX2_told_2 15 rfl rfl)
theorem dX2_told_98 : decode cX2_told 98 = .ok (.iconst 2, 1) := dk_5 (dk_at dksX2_told_2 18 rfl rfl)
theorem dX2_told_99 : decode cX2_told 99 = .ok (.iaload, 1) := dk_46 (dk_at dksX2_told_2 19 rfl rfl)
theorem dX2_told_100 : decode cX2_told 100 = .ok (.ireturn, 1) := dk_172 (dk_at dksX2_told_2 20 rfl rfl)
theorem dX2_told_101 : decode cX2_told 101 = .ok (.aload_n 0, 1) := dk_42 (dk_at dksX2_told_2 21 rfl rfl)
theorem dX2_told_102 : decode cX2_told 102 = .ok (.getfield 37, 3) := dk_180 0 37 (dk_at dksX2_told_3 0 rfl rfl)
theorem dX2_told_105 : decode cX2_told 105 = .ok (.ireturn, 1) := dk_172 (dk_at dksX2_told_3 3 rfl rfl)
theorem dX2_told_106 : decode cX2_told 106 = .ok (.aload_n 0, 1) := dk_42 (dk_at dksX2_told_3 4 rfl rfl)
theorem dX2_told_107 : decode cX2_told 107 = .ok (.iload_n 1, 1) := dk_27 (dk_at dksX2_told_3 5 rfl rfl)
theorem dX2_told_108 : decode cX2_told 108 = .ok (.invokevirtual 140, 3) := dk_182 0 140 (dk_at dksX2_told_3 6 rfl rfl)
theorem dX2_told_111 : decode cX2_told 111 = .ok (.ireturn, 1) := dk_172 (dk_at dksX2_told_3 9 rfl rfl)
theorem dX2_told_112 : decode cX2_told 112 = .ok (.aload_n 0, 1) := dk_42 (dk_at dksX2_told_3 10 rfl rfl)
theorem dX2_told_113 : decode cX2_told 113 = .ok (.iconst 0, 1) := dk_3 (dk_at dksX2_told_3 11 rfl rfl)
theorem dX2_told_114 : decode cX2_told 114 = .ok (.invokevirtual 123, 3) := dk_182 0 123 (dk_at dksX2_told_3 12 rfl rfl)
theorem dX2_told_117 : decode cX2_told 117 = .ok (.ireturn, 1) := dk_172 (dk_at dksX2_told_3 15 rfl rfl)
theorem dX2_told_118 : decode cX2_told 118 = .ok (.aload_n 0, 1) := dk_42 (dk_at dksX2_told_3 16 rfl rfl)
theorem dX2_told_119 : decode cX2_told 119 = .ok (.invokevirtual 143, 3) := dk_182 0 143 (dk_at dksX2_told_3 17 rfl rfl)
theorem dX2_told_122 : decode cX2_told 122 = .ok (.ireturn, 1) := dk_172 (dk_at dksX2_told_3 20 rfl rfl)
theorem dX2_told_123 : decode cX2_told 123 = .ok (.aload_n 0, 1) := dk_42 (dk_at dksX2_told_3 21 rfl rfl)
theorem dX2_told_124 : decode cX2_told 124 = .ok (.invokevirtual 146, 3) := dk_182 0 146 (dk_at dksX2_told_4 0 rfl rfl)
theorem dX2_told_127 : decode cX2_told 127 = .ok (.ireturn, 1) := dk_172 (dk_at dksX2_told_4 3 rfl rfl)
theorem dX2_told_128 : decode cX2_told 128 = .ok (.aload_n 0, 1) := dk_42 (dk_at dksX2_told_4 4 rfl rfl)
theorem dX2_told_129 : decode cX2_told 129 = .ok (.getfield 7, 3) := dk_180 0 7 (dk_at dksX2_told_4 5 rfl rfl)
theorem dX2_told_132 : decode cX2_told 132 = .ok (.sipush 171, 3) := dk_17 0 171 (dk_at dksX2_told_4 8 rfl rfl)
theorem dX2_told_135 : decode cX2_told 135 = .ok (.iaload, 1) := dk_46 (dk_at dksX2_told_4 11 rfl rfl)
theorem dX2_told_136 : decode cX2_told 136 = .ok (.ireturn, 1) := dk_172 (dk_at dksX2_told_4 12 rfl rfl)
theorem dX2_told_137 : decode cX2_told 137 = .ok (.aload_n 0, 1) := dk_42 (dk_at dksX2_told_4 13 rfl rfl)
theorem dX2_told_138 : decode cX2_told 138 = .ok (.invokevirtual 149, 3) := dk_182 0 149 (dk_at dksX2_told_4 14 rfl rfl)
theorem dX2_told_141 : decode cX2_told 141 = .ok (.ireturn, 1) := dk_172 (dk_at dksX2_told_4 17 rfl rfl)
theorem dX2_told_142 : decode cX2_told 142 = .ok (.aload_n 0, 1) := dk_42 (dk_at dksX2_told_4 18 rfl rfl)
theorem dX2_told_143 : decode cX2_told 143 = .ok (.getfield 7, 3) := dk_180 0 7 (dk_at dksX2_told_4 19 rfl rfl)
theorem dX2_told_146 : decode cX2_told 146 = .ok (.sipush 190, 3) := dk_17 0 190 (dk_at dksX2_told_5 0 rfl rfl)
theorem dX2_told_149 : decode cX2_told 149 = .ok (.iaload, 1) := dk_46 (dk_at dksX2_told_5 3 rfl rfl)
theorem dX2_told_150 : decode cX2_told 150 = .ok (.ireturn, 1) := dk_172 (dk_at dksX2_told_5 4 rfl rfl)
theorem dX2_told_151 : decode cX2_told 151 = .ok (.aload_n 0, 1) := dk_42 (dk_at dksX2_told_5 5 rfl rfl)
theorem dX2_told_152 : decode cX2_told 152 = .ok (.getfield 94, 3) := dk_180 0 94 (dk_at dksX2_told_5 6 rfl rfl)
theorem dX2_told_155 : decode cX2_told 155 = .ok (.ireturn, 1) := dk_172 (dk_at dksX2_told_5 9 rfl rfl)
theorem dX2_told_156 : decode cX2_told 156 = .ok (.aload_n 0, 1) := dk_42 (dk_at dksX2_told_5 10 rfl rfl)
theorem dX2_told_157 : decode cX2_told 157 = .ok (.invokevirtual 152, 3) := dk_182 0 152 (dk_at dksX2_told_5 11 rfl rfl)
theorem dX2_told_160 : decode cX2_told 160 = .ok (.ireturn, 1) := dk_172 (dk_at dksX2_told_5 14 rfl rfl)
theorem dX2_told_161 : decode cX2_told 161 = .ok (.aload_n 0, 1) := dk_42 (dk_at dksX2_told_5 15 rfl rfl)
theorem dX2_told_162 : decode cX2_told 162 = .ok (.getfield 88, 3) := dk_180 0 88 (dk_at dksX2_told_5 16 rfl rfl)
theorem dX2_told_165 : decode cX2_told 165 = .ok (.ireturn, 1) := dk_172 (dk_at dksX2_told_5 19 rfl rfl)
theorem dX2_told_166 : decode cX2_told 166 = .ok (.ldc 36, 2) := dk_18 36 (dk_at dksX2_told_5 20 rfl rfl)
theorem dX2_told_168 : decode cX2_told 168 = .ok (.ireturn, 1) := dk_172 (dk_at dksX2_told_5 22 rfl rfl)
abbrev cX2_setOf : ByteArray := prog_12_method_34_code
def yX2_setOf : MethodName := ⟨RX2, "setOf", "(I)I"⟩
def dkwX2_setOf_4 : List UInt8 := [167, 255, 168, 28, 172]
abbrev dktX2_setOf_4 : List UInt8 := dkwX2_setOf_4 ++ []
def dkwX2_setOf_3 : List UInt8 := [182, 0, 114, 54, 4, 28, 21, 4, 153, 0, 9, 4, 29, 120, 167, 0, 4, 3, 128, 61, 132, 3, 1]
abbrev dktX2_setOf_3 : List UInt8 := dkwX2_setOf_3 ++ dktX2_setOf_4
def dkwX2_setOf_2 : List UInt8 := [180, 0, 7, 16, 35, 29, 96, 46, 4, 160, 0, 7, 4, 167, 0, 13, 3, 167, 0, 9, 42, 3, 29]
abbrev dktX2_setOf_2 : List UInt8 := dkwX2_setOf_2 ++ dktX2_setOf_3
def dkwX2_setOf_1 : List UInt8 := [16, 27, 29, 96, 46, 4, 160, 0, 7, 4, 167, 0, 39, 3, 167, 0, 35, 27, 8, 160, 0, 24, 42]
abbrev dktX2_setOf_1 : List UInt8 := dkwX2_setOf_1 ++ dktX2_setOf_2
def dkwX2_setOf_0 : List UInt8 := [3, 61, 3, 62, 29, 42, 180, 0, 7, 3, 46, 162, 0, 84, 27, 7, 160, 0, 24, 42, 180, 0, 7]
abbrev dktX2_setOf_0 : List UInt8 := dkwX2_setOf_0 ++ dktX2_setOf_1
theorem dksX2_setOf_0 : cX2_setOf.data.toList.drop 0 = dktX2_setOf_0 := by decide +kernel
theorem dksX2_setOf_1 : cX2_setOf.data.toList.drop 23 = dktX2_setOf_1 := dk_seg dksX2_setOf_0 23 rfl rfl
theorem dksX2_setOf_2 : cX2_setOf.data.toList.drop 46 = dktX2_setOf_2 := dk_seg dksX2_setOf_1 23 rfl rfl
theorem dksX2_setOf_3 : cX2_setOf.data.toList.drop 69 = dktX2_setOf_3 := dk_seg dksX2_setOf_2 23 rfl rfl
theorem dksX2_setOf_4 : cX2_setOf.data.toList.drop 92 = dktX2_setOf_4 := dk_seg dksX2_setOf_3 23 rfl rfl
theorem dX2_setOf_0 : decode cX2_setOf 0 = .ok (.iconst 0, 1) := dk_3 (dk_at dksX2_setOf_0 0 rfl rfl)
theorem dX2_setOf_1 : decode cX2_setOf 1 = .ok (.istore_n 2, 1) := dk_61 (dk_at dksX2_setOf_0 1 rfl rfl)
theorem dX2_setOf_2 : decode cX2_setOf 2 = .ok (.iconst 0, 1) := dk_3 (dk_at dksX2_setOf_0 2 rfl rfl)
theorem dX2_setOf_3 : decode cX2_setOf 3 = .ok (.istore_n 3, 1) := dk_62 (dk_at dksX2_setOf_0 3 rfl rfl)
theorem dX2_setOf_4 : decode cX2_setOf 4 = .ok (.iload_n 3, 1) := dk_29 (dk_at dksX2_setOf_0 4 rfl rfl)
theorem dX2_setOf_5 : decode cX2_setOf 5 = .ok (.aload_n 0, 1) := dk_42 (dk_at dksX2_setOf_0 5 rfl rfl)
theorem dX2_setOf_6 : decode cX2_setOf 6 = .ok (.getfield 7, 3) := dk_180 0 7 (dk_at dksX2_setOf_0 6 rfl rfl)
theorem dX2_setOf_9 : decode cX2_setOf 9 = .ok (.iconst 0, 1) := dk_3 (dk_at dksX2_setOf_0 9 rfl rfl)
theorem dX2_setOf_10 : decode cX2_setOf 10 = .ok (.iaload, 1) := dk_46 (dk_at dksX2_setOf_0 10 rfl rfl)
theorem dX2_setOf_11 : decode cX2_setOf 11 = .ok (.if_icmp .ge 84, 3) := dk_162 0 84 (dk_at dksX2_setOf_0 11 rfl rfl)
theorem dX2_setOf_14 : decode cX2_setOf 14 = .ok (.iload_n 1, 1) := dk_27 (dk_at dksX2_setOf_0 14 rfl rfl)
theorem dX2_setOf_15 : decode cX2_setOf 15 = .ok (.iconst 4, 1) := dk_7 (dk_at dksX2_setOf_0 15 rfl rfl)
theorem dX2_setOf_16 : decode cX2_setOf 16 = .ok (.if_icmp .ne 24, 3) := dk_160 0 24 (dk_at dksX2_setOf_0 16 rfl rfl)
theorem dX2_setOf_19 : decode cX2_setOf 19 = .ok (.aload_n 0, 1) := dk_42 (dk_at dksX2_setOf_0 19 rfl rfl)
theorem dX2_setOf_20 : decode cX2_setOf 20 = .ok (.getfield 7, 3) := dk_180 0 7 (dk_at dksX2_setOf_0 20 rfl rfl)
theorem dX2_setOf_23 : decode cX2_setOf 23 = .ok (.bipush 27, 2) := dk_16 27 (dk_at dksX2_setOf_1 0 rfl rfl)
theorem dX2_setOf_25 : decode cX2_setOf 25 = .ok (.iload_n 3, 1) := dk_29 (dk_at dksX2_setOf_1 2 rfl rfl)
theorem dX2_setOf_26 : decode cX2_setOf 26 = .ok (.iadd, 1) := dk_96 (dk_at dksX2_setOf_1 3 rfl rfl)
theorem dX2_setOf_27 : decode cX2_setOf 27 = .ok (.iaload, 1) := dk_46 (dk_at dksX2_setOf_1 4 rfl rfl)
theorem dX2_setOf_28 : decode cX2_setOf 28 = .ok (.iconst 1, 1) := dk_4 (dk_at dksX2_setOf_1 5 rfl rfl)
theorem dX2_setOf_29 : decode cX2_setOf 29 = .ok (.if_icmp .ne 7, 3) := dk_160 0 7 (dk_at dksX2_setOf_1 6 rfl rfl)
theorem dX2_setOf_32 : decode cX2_setOf 32 = .ok (.iconst 1, 1) := dk_4 (dk_at dksX2_setOf_1 9 rfl rfl)
theorem dX2_setOf_33 : decode cX2_setOf 33 = .ok (.goto 39, 3) := dk_167 0 39 (dk_at dksX2_setOf_1 10 rfl rfl)
theorem dX2_setOf_36 : decode cX2_setOf 36 = .ok (.iconst 0, 1) := dk_3 (dk_at dksX2_setOf_1 13 rfl rfl)
theorem dX2_setOf_37 : decode cX2_setOf 37 = .ok (.goto 35, 3) := dk_167 0 35 (dk_at dksX2_setOf_1 14 rfl rfl)
theorem dX2_setOf_40 : decode cX2_setOf 40 = .ok (.iload_n 1, 1) := dk_27 (dk_at dksX2_setOf_1 17 rfl rfl)
theorem dX2_setOf_41 : decode cX2_setOf 41 = .ok (.iconst 5, 1) := dk_8 (dk_at dksX2_setOf_1 18 rfl rfl)
theorem dX2_setOf_42 : decode cX2_setOf 42 = .ok (.if_icmp .ne 24, 3) := dk_160 0 24 (dk_at dksX2_setOf_1 19 rfl rfl)
theorem dX2_setOf_45 : decode cX2_setOf 45 = .ok (.aload_n 0, 1) := dk_42 (dk_at dksX2_setOf_1 22 rfl rfl)
theorem dX2_setOf_46 : decode cX2_setOf 46 = .ok (.getfield 7, 3) := dk_180 0 7 (dk_at dksX2_setOf_2 0 rfl rfl)
theorem dX2_setOf_49 : decode cX2_setOf 49 = .ok (.bipush 35, 2) := dk_16 35 (dk_at dksX2_setOf_2 3 rfl rfl)
theorem dX2_setOf_51 : decode cX2_setOf 51 = .ok (.iload_n 3, 1) := dk_29 (dk_at dksX2_setOf_2 5 rfl rfl)
theorem dX2_setOf_52 : decode cX2_setOf 52 = .ok (.iadd, 1) := dk_96 (dk_at dksX2_setOf_2 6 rfl rfl)
theorem dX2_setOf_53 : decode cX2_setOf 53 = .ok (.iaload, 1) := dk_46 (dk_at dksX2_setOf_2 7 rfl rfl)
theorem dX2_setOf_54 : decode cX2_setOf 54 = .ok (.iconst 1, 1) := dk_4 (dk_at dksX2_setOf_2 8 rfl rfl)
theorem dX2_setOf_55 : decode cX2_setOf 55 = .ok (.if_icmp .ne 7, 3) := dk_160 0 7 (dk_at dksX2_setOf_2 9 rfl rfl)
theorem dX2_setOf_58 : decode cX2_setOf 58 = .ok (.iconst 1, 1) := dk_4 (dk_at dksX2_setOf_2 12 rfl rfl)
theorem dX2_setOf_59 : decode cX2_setOf 59 = .ok (.goto 13, 3) := dk_167 0 13 (dk_at dksX2_setOf_2 13 rfl rfl)
theorem dX2_setOf_62 : decode cX2_setOf 62 = .ok (.iconst 0, 1) := dk_3 (dk_at dksX2_setOf_2 16 rfl rfl)
theorem dX2_setOf_63 : decode cX2_setOf 63 = .ok (.goto 9, 3) := dk_167 0 9 (dk_at dksX2_setOf_2 17 rfl rfl)
theorem dX2_setOf_66 : decode cX2_setOf 66 = .ok (.aload_n 0, 1) := dk_42 (dk_at dksX2_setOf_2 20 rfl rfl)
theorem dX2_setOf_67 : decode cX2_setOf 67 = .ok (.iconst 0, 1) := dk_3 (dk_at dksX2_setOf_2 21 rfl rfl)
theorem dX2_setOf_68 : decode cX2_setOf 68 = .ok (.iload_n 3, 1) := dk_29 (dk_at dksX2_setOf_2 22 rfl rfl)
theorem dX2_setOf_69 : decode cX2_setOf 69 = .ok (.invokevirtual 114, 3) := dk_182 0 114 (dk_at dksX2_setOf_3 0 rfl rfl)
theorem dX2_setOf_72 : decode cX2_setOf 72 = .ok (.istore 4, 2) := dk_54 4 (dk_at dksX2_setOf_3 3 rfl rfl)
theorem dX2_setOf_74 : decode cX2_setOf 74 = .ok (.iload_n 2, 1) := dk_28 (dk_at dksX2_setOf_3 5 rfl rfl)
theorem dX2_setOf_75 : decode cX2_setOf 75 = .ok (.iload 4, 2) := dk_21 4 (dk_at dksX2_setOf_3 6 rfl rfl)
theorem dX2_setOf_77 : decode cX2_setOf 77 = .ok (.ifCond .eq 9, 3) := dk_153 0 9 (dk_at dksX2_setOf_3 8 rfl rfl)
theorem dX2_setOf_80 : decode cX2_setOf 80 = .ok (.iconst 1, 1) := dk_4 (dk_at dksX2_setOf_3 11 rfl rfl)
theorem dX2_setOf_81 : decode cX2_setOf 81 = .ok (.iload_n 3, 1) := dk_29 (dk_at dksX2_setOf_3 12 rfl rfl)
theorem dX2_setOf_82 : decode cX2_setOf 82 = .ok (.ishl, 1) := dk_120 (dk_at dksX2_setOf_3 13 rfl rfl)
theorem dX2_setOf_83 : decode cX2_setOf 83 = .ok (.goto 4, 3) := dk_167 0 4 (dk_at dksX2_setOf_3 14 rfl rfl)
theorem dX2_setOf_86 : decode cX2_setOf 86 = .ok (.iconst 0, 1) := dk_3 (dk_at dksX2_setOf_3 17 rfl rfl)
theorem dX2_setOf_87 : decode cX2_setOf 87 = .ok (.ior, 1) := dk_128 (dk_at dksX2_setOf_3 18 rfl rfl)
theorem dX2_setOf_88 : decode cX2_setOf 88 = .ok (.istore_n 2, 1) := dk_61 (dk_at dksX2_setOf_3 19 rfl rfl)
theorem dX2_setOf_89 : decode cX2_setOf 89 = .ok (.iinc 3 1, 3) := dk_132 3 1 (dk_at dksX2_setOf_3 20 rfl rfl)
theorem dX2_setOf_92 : decode cX2_setOf 92 = .ok (.goto (-88), 3) := dk_167 255 168 (dk_at dksX2_setOf_4 0 rfl rfl)
theorem dX2_setOf_95 : decode cX2_setOf 95 = .ok (.iload_n 2, 1) := dk_28 (dk_at dksX2_setOf_4 3 rfl rfl)
theorem dX2_setOf_96 : decode cX2_setOf 96 = .ok (.ireturn, 1) := dk_172 (dk_at dksX2_setOf_4 4 rfl rfl)
abbrev cX2_isTrue : ByteArray := prog_12_method_8_code
def yX2_isTrue : MethodName := ⟨RX2, "isTrue", "(II)Z"⟩
def dkwX2_isTrue_1 : List UInt8 := [46, 154, 0, 7, 4, 167, 0, 4, 3, 172]
abbrev dktX2_isTrue_1 : List UInt8 := dkwX2_isTrue_1 ++ []
def dkwX2_isTrue_0 : List UInt8 := [42, 180, 0, 7, 27, 16, 27, 96, 28, 96, 46, 154, 0, 21, 42, 180, 0, 7, 27, 16, 35, 96, 28, 96]
abbrev dktX2_isTrue_0 : List UInt8 := dkwX2_isTrue_0 ++ dktX2_isTrue_1
theorem dksX2_isTrue_0 : cX2_isTrue.data.toList.drop 0 = dktX2_isTrue_0 := by decide +kernel
theorem dksX2_isTrue_1 : cX2_isTrue.data.toList.drop 24 = dktX2_isTrue_1 := dk_seg dksX2_isTrue_0 24 rfl rfl
theorem dX2_isTrue_0 : decode cX2_isTrue 0 = .ok (.aload_n 0, 1) := dk_42 (dk_at dksX2_isTrue_0 0 rfl rfl)
theorem dX2_isTrue_1 : decode cX2_isTrue 1 = .ok (.getfield 7, 3) := dk_180 0 7 (dk_at dksX2_isTrue_0 1 rfl rfl)
theorem dX2_isTrue_4 : decode cX2_isTrue 4 = .ok (.iload_n 1, 1) := dk_27 (dk_at dksX2_isTrue_0 4 rfl rfl)
theorem dX2_isTrue_5 : decode cX2_isTrue 5 = .ok (.bipush 27, 2) := dk_16 27 (dk_at dksX2_isTrue_0 5 rfl rfl)
theorem dX2_isTrue_7 : decode cX2_isTrue 7 = .ok (.iadd, 1) := dk_96 (dk_at dksX2_isTrue_0 7 rfl rfl)
theorem dX2_isTrue_8 : decode cX2_isTrue 8 = .ok (.iload_n 2, 1) := dk_28 (dk_at dksX2_isTrue_0 8 rfl rfl)
theorem dX2_isTrue_9 : decode cX2_isTrue 9 = .ok (.iadd, 1) := dk_96 (dk_at dksX2_isTrue_0 9 rfl rfl)
theorem dX2_isTrue_10 : decode cX2_isTrue 10 = .ok (.iaload, 1) := dk_46 (dk_at dksX2_isTrue_0 10 rfl rfl)
theorem dX2_isTrue_11 : decode cX2_isTrue 11 = .ok (.ifCond .ne 21, 3) := dk_154 0 21 (dk_at dksX2_isTrue_0 11 rfl rfl)
theorem dX2_isTrue_14 : decode cX2_isTrue 14 = .ok (.aload_n 0, 1) := dk_42 (dk_at dksX2_isTrue_0 14 rfl rfl)
theorem dX2_isTrue_15 : decode cX2_isTrue 15 = .ok (.getfield 7, 3) := dk_180 0 7 (dk_at dksX2_isTrue_0 15 rfl rfl)
theorem dX2_isTrue_18 : decode cX2_isTrue 18 = .ok (.iload_n 1, 1) := dk_27 (dk_at dksX2_isTrue_0 18 rfl rfl)
theorem dX2_isTrue_19 : decode cX2_isTrue 19 = .ok (.bipush 35, 2) := dk_16 35 (dk_at dksX2_isTrue_0 19 rfl rfl)
theorem dX2_isTrue_21 : decode cX2_isTrue 21 = .ok (.iadd, 1) := dk_96 (dk_at dksX2_isTrue_0 21 rfl rfl)
theorem dX2_isTrue_22 : decode cX2_isTrue 22 = .ok (.iload_n 2, 1) := dk_28 (dk_at dksX2_isTrue_0 22 rfl rfl)
theorem dX2_isTrue_23 : decode cX2_isTrue 23 = .ok (.iadd, 1) := dk_96 (dk_at dksX2_isTrue_0 23 rfl rfl)
theorem dX2_isTrue_24 : decode cX2_isTrue 24 = .ok (.iaload, 1) := dk_46 (dk_at dksX2_isTrue_1 0 rfl rfl)
theorem dX2_isTrue_25 : decode cX2_isTrue 25 = .ok (.ifCond .ne 7, 3) := dk_154 0 7 (dk_at dksX2_isTrue_1 1 rfl rfl)
theorem dX2_isTrue_28 : decode cX2_isTrue 28 = .ok (.iconst 1, 1) := dk_4 (dk_at dksX2_isTrue_1 4 rfl rfl)
theorem dX2_isTrue_29 : decode cX2_isTrue 29 = .ok (.goto 4, 3) := dk_167 0 4 (dk_at dksX2_isTrue_1 5 rfl rfl)
theorem dX2_isTrue_32 : decode cX2_isTrue 32 = .ok (.iconst 0, 1) := dk_3 (dk_at dksX2_isTrue_1 8 rfl rfl)
theorem dX2_isTrue_33 : decode cX2_isTrue 33 = .ok (.ireturn, 1) := dk_172 (dk_at dksX2_isTrue_1 9 rfl rfl)
abbrev cX2_apart : ByteArray := prog_12_method_26_code
def yX2_apart : MethodName := ⟨RX2, "apart", "(I)I"⟩
def dkwX2_apart_4 : List UInt8 := [160, 0, 7, 2, 167, 0, 16, 42, 27, 29, 182, 0, 97, 42, 27, 28, 182, 0, 97, 100, 172]
abbrev dktX2_apart_4 : List UInt8 := dkwX2_apart_4 ++ []
def dkwX2_apart_3 : List UInt8 := [29, 182, 0, 97, 164, 0, 8, 21, 4, 167, 0, 4, 29, 62, 132, 4, 1, 167, 255, 176, 28, 2]
abbrev dktX2_apart_3 : List UInt8 := dkwX2_apart_3 ++ dktX2_apart_4
def dkwX2_apart_2 : List UInt8 := [162, 0, 8, 21, 4, 167, 0, 4, 28, 61, 29, 2, 159, 0, 19, 42, 27, 21, 4, 182, 0, 97, 42, 27]
abbrev dktX2_apart_2 : List UInt8 := dkwX2_apart_2 ++ dktX2_apart_3
def dkwX2_apart_1 : List UInt8 := [182, 0, 114, 153, 0, 59, 28, 2, 159, 0, 19, 42, 27, 21, 4, 182, 0, 97, 42, 27, 28, 182, 0, 97]
abbrev dktX2_apart_1 : List UInt8 := dkwX2_apart_1 ++ dktX2_apart_2
def dkwX2_apart_0 : List UInt8 := [2, 61, 2, 62, 3, 54, 4, 21, 4, 42, 180, 0, 7, 27, 46, 162, 0, 75, 42, 27, 21, 4]
abbrev dktX2_apart_0 : List UInt8 := dkwX2_apart_0 ++ dktX2_apart_1
theorem dksX2_apart_0 : cX2_apart.data.toList.drop 0 = dktX2_apart_0 := by decide +kernel
theorem dksX2_apart_1 : cX2_apart.data.toList.drop 22 = dktX2_apart_1 := dk_seg dksX2_apart_0 22 rfl rfl
theorem dksX2_apart_2 : cX2_apart.data.toList.drop 46 = dktX2_apart_2 := dk_seg dksX2_apart_1 24 rfl rfl
theorem dksX2_apart_3 : cX2_apart.data.toList.drop 70 = dktX2_apart_3 := dk_seg dksX2_apart_2 24 rfl rfl
theorem dksX2_apart_4 : cX2_apart.data.toList.drop 92 = dktX2_apart_4 := dk_seg dksX2_apart_3 22 rfl rfl
theorem dX2_apart_0 : decode cX2_apart 0 = .ok (.iconst (-1), 1) := dk_2 (dk_at dksX2_apart_0 0 rfl rfl)
theorem dX2_apart_1 : decode cX2_apart 1 = .ok (.istore_n 2, 1) := dk_61 (dk_at dksX2_apart_0 1 rfl rfl)
theorem dX2_apart_2 : decode cX2_apart 2 = .ok (.iconst (-1), 1) := dk_2 (dk_at dksX2_apart_0 2 rfl rfl)
theorem dX2_apart_3 : decode cX2_apart 3 = .ok (.istore_n 3, 1) := dk_62 (dk_at dksX2_apart_0 3 rfl rfl)
theorem dX2_apart_4 : decode cX2_apart 4 = .ok (.iconst 0, 1) := dk_3 (dk_at dksX2_apart_0 4 rfl rfl)
theorem dX2_apart_5 : decode cX2_apart 5 = .ok (.istore 4, 2) := dk_54 4 (dk_at dksX2_apart_0 5 rfl rfl)
theorem dX2_apart_7 : decode cX2_apart 7 = .ok (.iload 4, 2) := dk_21 4 (dk_at dksX2_apart_0 7 rfl rfl)
theorem dX2_apart_9 : decode cX2_apart 9 = .ok (.aload_n 0, 1) := dk_42 (dk_at dksX2_apart_0 9 rfl rfl)
theorem dX2_apart_10 : decode cX2_apart 10 = .ok (.getfield 7, 3) := dk_180 0 7 (dk_at dksX2_apart_0 10 rfl rfl)
theorem dX2_apart_13 : decode cX2_apart 13 = .ok (.iload_n 1, 1) := dk_27 (dk_at dksX2_apart_0 13 rfl rfl)
theorem dX2_apart_14 : decode cX2_apart 14 = .ok (.iaload, 1) := dk_46 (dk_at dksX2_apart_0 14 rfl rfl)
theorem dX2_apart_15 : decode cX2_apart 15 = .ok (.if_icmp .ge 75, 3) := dk_162 0 75 (dk_at dksX2_apart_0 15 rfl rfl)
theorem dX2_apart_18 : decode cX2_apart 18 = .ok (.aload_n 0, 1) := dk_42 (dk_at dksX2_apart_0 18 rfl rfl)
theorem dX2_apart_19 : decode cX2_apart 19 = .ok (.iload_n 1, 1) := dk_27 (dk_at dksX2_apart_0 19 rfl rfl)
theorem dX2_apart_20 : decode cX2_apart 20 = .ok (.iload 4, 2) := dk_21 4 (dk_at dksX2_apart_0 20 rfl rfl)
theorem dX2_apart_22 : decode cX2_apart 22 = .ok (.invokevirtual 114, 3) := dk_182 0 114 (dk_at dksX2_apart_1 0 rfl rfl)
theorem dX2_apart_25 : decode cX2_apart 25 = .ok (.ifCond .eq 59, 3) := dk_153 0 59 (dk_at dksX2_apart_1 3 rfl rfl)
theorem dX2_apart_28 : decode cX2_apart 28 = .ok (.iload_n 2, 1) := dk_28 (dk_at dksX2_apart_1 6 rfl rfl)
theorem dX2_apart_29 : decode cX2_apart 29 = .ok (.iconst (-1), 1) := dk_2 (dk_at dksX2_apart_1 7 rfl rfl)
theorem dX2_apart_30 : decode cX2_apart 30 = .ok (.if_icmp .eq 19, 3) := dk_159 0 19 (dk_at dksX2_apart_1 8 rfl rfl)
theorem dX2_apart_33 : decode cX2_apart 33 = .ok (.aload_n 0, 1) := dk_42 (dk_at dksX2_apart_1 11 rfl rfl)
theorem dX2_apart_34 : decode cX2_apart 34 = .ok (.iload_n 1, 1) := dk_27 (dk_at dksX2_apart_1 12 rfl rfl)
theorem dX2_apart_35 : decode cX2_apart 35 = .ok (.iload 4, 2) := dk_21 4 (dk_at dksX2_apart_1 13 rfl rfl)
theorem dX2_apart_37 : decode cX2_apart 37 = .ok (.invokevirtual 97, 3) := dk_182 0 97 (dk_at dksX2_apart_1 15 rfl rfl)
theorem dX2_apart_40 : decode cX2_apart 40 = .ok (.aload_n 0, 1) := dk_42 (dk_at dksX2_apart_1 18 rfl rfl)
theorem dX2_apart_41 : decode cX2_apart 41 = .ok (.iload_n 1, 1) := dk_27 (dk_at dksX2_apart_1 19 rfl rfl)
theorem dX2_apart_42 : decode cX2_apart 42 = .ok (.iload_n 2, 1) := dk_28 (dk_at dksX2_apart_1 20 rfl rfl)
theorem dX2_apart_43 : decode cX2_apart 43 = .ok (.invokevirtual 97, 3) := dk_182 0 97 (dk_at dksX2_apart_1 21 rfl rfl)
theorem dX2_apart_46 : decode cX2_apart 46 = .ok (.if_icmp .ge 8, 3) := dk_162 0 8 (dk_at dksX2_apart_2 0 rfl rfl)
theorem dX2_apart_49 : decode cX2_apart 49 = .ok (.iload 4, 2) := dk_21 4 (dk_at dksX2_apart_2 3 rfl rfl)
theorem dX2_apart_51 : decode cX2_apart 51 = .ok (.goto 4, 3) := dk_167 0 4 (dk_at dksX2_apart_2 5 rfl rfl)
theorem dX2_apart_54 : decode cX2_apart 54 = .ok (.iload_n 2, 1) := dk_28 (dk_at dksX2_apart_2 8 rfl rfl)
theorem dX2_apart_55 : decode cX2_apart 55 = .ok (.istore_n 2, 1) := dk_61 (dk_at dksX2_apart_2 9 rfl rfl)
theorem dX2_apart_56 : decode cX2_apart 56 = .ok (.iload_n 3, 1) := dk_29 (dk_at dksX2_apart_2 10 rfl rfl)
theorem dX2_apart_57 : decode cX2_apart 57 = .ok (.iconst (-1), 1) := dk_2 (dk_at dksX2_apart_2 11 rfl rfl)
theorem dX2_apart_58 : decode cX2_apart 58 = .ok (.if_icmp .eq 19, 3) := dk_159 0 19 (dk_at dksX2_apart_2 12 rfl rfl)
theorem dX2_apart_61 : decode cX2_apart 61 = .ok (.aload_n 0, 1) := dk_42 (dk_at dksX2_apart_2 15 rfl rfl)
theorem dX2_apart_62 : decode cX2_apart 62 = .ok (.iload_n 1, 1) := dk_27 (dk_at dksX2_apart_2 16 rfl rfl)
theorem dX2_apart_63 : decode cX2_apart 63 = .ok (.iload 4, 2) := dk_21 4 (dk_at dksX2_apart_2 17 rfl rfl)
theorem dX2_apart_65 : decode cX2_apart 65 = .ok (.invokevirtual 97, 3) := dk_182 0 97 (dk_at dksX2_apart_2 19 rfl rfl)
theorem dX2_apart_68 : decode cX2_apart 68 = .ok (.aload_n 0, 1) := dk_42 (dk_at dksX2_apart_2 22 rfl rfl)
theorem dX2_apart_69 : decode cX2_apart 69 = .ok (.iload_n 1, 1) := dk_27 (dk_at dksX2_apart_2 23 rfl rfl)
theorem dX2_apart_70 : decode cX2_apart 70 = .ok (.iload_n 3, 1) := dk_29 (dk_at dksX2_apart_3 0 rfl rfl)
theorem dX2_apart_71 : decode cX2_apart 71 = .ok (.invokevirtual 97, 3) := dk_182 0 97 (dk_at dksX2_apart_3 1 rfl rfl)
theorem dX2_apart_74 : decode cX2_apart 74 = .ok (.if_icmp .le 8, 3) := dk_164 0 8 (dk_at dksX2_apart_3 4 rfl rfl)
theorem dX2_apart_77 : decode cX2_apart 77 = .ok (.iload 4, 2) := dk_21 4 (dk_at dksX2_apart_3 7 rfl rfl)
theorem dX2_apart_79 : decode cX2_apart 79 = .ok (.goto 4, 3) := dk_167 0 4 (dk_at dksX2_apart_3 9 rfl rfl)
theorem dX2_apart_82 : decode cX2_apart 82 = .ok (.iload_n 3, 1) := dk_29 (dk_at dksX2_apart_3 12 rfl rfl)
theorem dX2_apart_83 : decode cX2_apart 83 = .ok (.istore_n 3, 1) := dk_62 (dk_at dksX2_apart_3 13 rfl rfl)
theorem dX2_apart_84 : decode cX2_apart 84 = .ok (.iinc 4 1, 3) := dk_132 4 1 (dk_at dksX2_apart_3 14 rfl rfl)
theorem dX2_apart_87 : decode cX2_apart 87 = .ok (.goto (-80), 3) := dk_167 255 176 (dk_at dksX2_apart_3 17 rfl rfl)
theorem dX2_apart_90 : decode cX2_apart 90 = .ok (.iload_n 2, 1) := dk_28 (dk_at dksX2_apart_3 20 rfl rfl)
theorem dX2_apart_91 : decode cX2_apart 91 = .ok (.iconst (-1), 1) := dk_2 (dk_at dksX2_apart_3 21 rfl rfl)
theorem dX2_apart_92 : decode cX2_apart 92 = .ok (.if_icmp .ne 7, 3) := dk_160 0 7 (dk_at dksX2_apart_4 0 rfl rfl)
theorem dX2_apart_95 : decode cX2_apart 95 = .ok (.iconst (-1), 1) := dk_2 (dk_at dksX2_apart_4 3 rfl rfl)
theorem dX2_apart_96 : decode cX2_apart 96 = .ok (.goto 16, 3) := dk_167 0 16 (dk_at dksX2_apart_4 4 rfl rfl)
theorem dX2_apart_99 : decode cX2_apart 99 = .ok (.aload_n 0, 1) := dk_42 (dk_at dksX2_apart_4 7 rfl rfl)
theorem dX2_apart_100 : decode cX2_apart 100 = .ok (.iload_n 1, 1) := dk_27 (dk_at dksX2_apart_4 8 rfl rfl)
theorem dX2_apart_101 : decode cX2_apart 101 = .ok (.iload_n 3, 1) := dk_29 (dk_at dksX2_apart_4 9 rfl rfl)
theorem dX2_apart_102 : decode cX2_apart 102 = .ok (.invokevirtual 97, 3) := dk_182 0 97 (dk_at dksX2_apart_4 10 rfl rfl)
theorem dX2_apart_105 : decode cX2_apart 105 = .ok (.aload_n 0, 1) := dk_42 (dk_at dksX2_apart_4 13 rfl rfl)
theorem dX2_apart_106 : decode cX2_apart 106 = .ok (.iload_n 1, 1) := dk_27 (dk_at dksX2_apart_4 14 rfl rfl)
theorem dX2_apart_107 : decode cX2_apart 107 = .ok (.iload_n 2, 1) := dk_28 (dk_at dksX2_apart_4 15 rfl rfl)
theorem dX2_apart_108 : decode cX2_apart 108 = .ok (.invokevirtual 97, 3) := dk_182 0 97 (dk_at dksX2_apart_4 16 rfl rfl)
theorem dX2_apart_111 : decode cX2_apart 111 = .ok (.isub, 1) := dk_100 (dk_at dksX2_apart_4 19 rfl rfl)
theorem dX2_apart_112 : decode cX2_apart 112 = .ok (.ireturn, 1) := dk_172 (dk_at dksX2_apart_4 20 rfl rfl)
abbrev cX2_aim : ByteArray := prog_12_method_7_code
def yX2_aim : MethodName := ⟨RX2, "aim", "(II)I"⟩
def dkwX2_aim_0 : List UInt8 := [42, 180, 0, 7, 27, 6, 96, 28, 96, 46, 42, 180, 0, 7, 27, 16, 19, 96, 28, 96, 46, 96, 172]
abbrev dktX2_aim_0 : List UInt8 := dkwX2_aim_0 ++ []
theorem dksX2_aim_0 : cX2_aim.data.toList.drop 0 = dktX2_aim_0 := by decide +kernel
theorem dX2_aim_0 : decode cX2_aim 0 = .ok (.aload_n 0, 1) := dk_42 (dk_at dksX2_aim_0 0 rfl rfl)
theorem dX2_aim_1 : decode cX2_aim 1 = .ok (.getfield 7, 3) := dk_180 0 7 (dk_at dksX2_aim_0 1 rfl rfl)
theorem dX2_aim_4 : decode cX2_aim 4 = .ok (.iload_n 1, 1) := dk_27 (dk_at dksX2_aim_0 4 rfl rfl)
theorem dX2_aim_5 : decode cX2_aim 5 = .ok (.iconst 3, 1) := dk_6 (dk_at dksX2_aim_0 5 rfl rfl)
theorem dX2_aim_6 : decode cX2_aim 6 = .ok (.iadd, 1) := dk_96 (dk_at dksX2_aim_0 6 rfl rfl)
theorem dX2_aim_7 : decode cX2_aim 7 = .ok (.iload_n 2, 1) := dk_28 (dk_at dksX2_aim_0 7 rfl rfl)
theorem dX2_aim_8 : decode cX2_aim 8 = .ok (.iadd, 1) := dk_96 (dk_at dksX2_aim_0 8 rfl rfl)
theorem dX2_aim_9 : decode cX2_aim 9 = .ok (.iaload, 1) := dk_46 (dk_at dksX2_aim_0 9 rfl rfl)
theorem dX2_aim_10 : decode cX2_aim 10 = .ok (.aload_n 0, 1) := dk_42 (dk_at dksX2_aim_0 10 rfl rfl)
theorem dX2_aim_11 : decode cX2_aim 11 = .ok (.getfield 7, 3) := dk_180 0 7 (dk_at dksX2_aim_0 11 rfl rfl)
theorem dX2_aim_14 : decode cX2_aim 14 = .ok (.iload_n 1, 1) := dk_27 (dk_at dksX2_aim_0 14 rfl rfl)
theorem dX2_aim_15 : decode cX2_aim 15 = .ok (.bipush 19, 2) := dk_16 19 (dk_at dksX2_aim_0 15 rfl rfl)
theorem dX2_aim_17 : decode cX2_aim 17 = .ok (.iadd, 1) := dk_96 (dk_at dksX2_aim_0 17 rfl rfl)
theorem dX2_aim_18 : decode cX2_aim 18 = .ok (.iload_n 2, 1) := dk_28 (dk_at dksX2_aim_0 18 rfl rfl)
theorem dX2_aim_19 : decode cX2_aim 19 = .ok (.iadd, 1) := dk_96 (dk_at dksX2_aim_0 19 rfl rfl)
theorem dX2_aim_20 : decode cX2_aim 20 = .ok (.iaload, 1) := dk_46 (dk_at dksX2_aim_0 20 rfl rfl)
theorem dX2_aim_21 : decode cX2_aim 21 = .ok (.iadd, 1) := dk_96 (dk_at dksX2_aim_0 21 rfl rfl)
theorem dX2_aim_22 : decode cX2_aim 22 = .ok (.ireturn, 1) := dk_172 (dk_at dksX2_aim_0 22 rfl rfl)
abbrev cX2_worst : ByteArray := prog_12_method_30_code
def yX2_worst : MethodName := ⟨RX2, "worst", "()I"⟩
def dkwX2_worst_8 : List UInt8 := [132, 4, 1, 167, 255, 170, 132, 3, 1, 167, 255, 151, 28, 172]
abbrev dktX2_worst_8 : List UInt8 := dkwX2_worst_8 ++ []
def dkwX2_worst_7 : List UInt8 := [182, 0, 132, 100, 167, 0, 4, 3, 54, 6, 21, 6, 28, 164, 0, 8, 21, 6, 167, 0, 4, 28, 61]
abbrev dktX2_worst_7 : List UInt8 := dkwX2_worst_7 ++ dktX2_worst_8
def dkwX2_worst_6 : List UInt8 := [4, 167, 0, 4, 3, 54, 5, 21, 5, 153, 0, 22, 42, 29, 18, 131, 182, 0, 132, 42, 21, 4, 18, 135]
abbrev dktX2_worst_6 : List UInt8 := dkwX2_worst_6 ++ dktX2_worst_7
def dkwX2_worst_5 : List UInt8 := [21, 4, 159, 0, 26, 42, 3, 29, 182, 0, 114, 153, 0, 17, 42, 3, 21, 4, 182, 0, 114, 153, 0, 7]
abbrev dktX2_worst_5 : List UInt8 := dkwX2_worst_5 ++ dktX2_worst_6
def dkwX2_worst_4 : List UInt8 := [42, 180, 0, 7, 3, 46, 162, 0, 101, 3, 54, 4, 21, 4, 42, 180, 0, 7, 3, 46, 162, 0, 81, 29]
abbrev dktX2_worst_4 : List UInt8 := dkwX2_worst_4 ++ dktX2_worst_5
def dkwX2_worst_3 : List UInt8 := [3, 182, 0, 123, 172, 42, 182, 0, 127, 42, 180, 0, 7, 4, 46, 164, 0, 6, 18, 130, 172, 3, 62, 29]
abbrev dktX2_worst_3 : List UInt8 := dkwX2_worst_3 ++ dktX2_worst_4
def dkwX2_worst_2 : List UInt8 := [154, 0, 7, 2, 167, 0, 4, 3, 172, 42, 3, 42, 180, 0, 7, 3, 46, 182, 0, 100, 153, 0, 9, 42]
abbrev dktX2_worst_2 : List UInt8 := dkwX2_worst_2 ++ dktX2_worst_3
def dkwX2_worst_1 : List UInt8 := [153, 0, 7, 4, 167, 0, 4, 3, 96, 60, 132, 3, 1, 167, 255, 226, 27, 5, 162, 0, 13, 27]
abbrev dktX2_worst_1 : List UInt8 := dkwX2_worst_1 ++ dktX2_worst_2
def dkwX2_worst_0 : List UInt8 := [3, 60, 3, 61, 3, 62, 29, 42, 180, 0, 7, 3, 46, 162, 0, 26, 27, 42, 3, 29, 182, 0, 114]
abbrev dktX2_worst_0 : List UInt8 := dkwX2_worst_0 ++ dktX2_worst_1
theorem dksX2_worst_0 : cX2_worst.data.toList.drop 0 = dktX2_worst_0 := by decide +kernel
theorem dksX2_worst_1 : cX2_worst.data.toList.drop 23 = dktX2_worst_1 := dk_seg dksX2_worst_0 23 rfl rfl
theorem dksX2_worst_2 : cX2_worst.data.toList.drop 45 = dktX2_worst_2 := dk_seg dksX2_worst_1 22 rfl rfl
theorem dksX2_worst_3 : cX2_worst.data.toList.drop 69 = dktX2_worst_3 := dk_seg dksX2_worst_2 24 rfl rfl
theorem dksX2_worst_4 : cX2_worst.data.toList.drop 93 = dktX2_worst_4 := dk_seg dksX2_worst_3 24 rfl rfl
theorem dksX2_worst_5 : cX2_worst.data.toList.drop 117 = dktX2_worst_5 := dk_seg dksX2_worst_4 24 rfl rfl
theorem dksX2_worst_6 : cX2_worst.data.toList.drop 141 = dktX2_worst_6 := dk_seg dksX2_worst_5 24 rfl rfl
theorem dksX2_worst_7 : cX2_worst.data.toList.drop 165 = dktX2_worst_7 := dk_seg dksX2_worst_6 24 rfl rfl
theorem dksX2_worst_8 : cX2_worst.data.toList.drop 188 = dktX2_worst_8 := dk_seg dksX2_worst_7 23 rfl rfl
theorem dX2_worst_0 : decode cX2_worst 0 = .ok (.iconst 0, 1) := dk_3 (dk_at dksX2_worst_0 0 rfl rfl)
theorem dX2_worst_1 : decode cX2_worst 1 = .ok (.istore_n 1, 1) := dk_60 (dk_at dksX2_worst_0 1 rfl rfl)
theorem dX2_worst_2 : decode cX2_worst 2 = .ok (.iconst 0, 1) := dk_3 (dk_at dksX2_worst_0 2 rfl rfl)
theorem dX2_worst_3 : decode cX2_worst 3 = .ok (.istore_n 2, 1) := dk_61 (dk_at dksX2_worst_0 3 rfl rfl)
theorem dX2_worst_4 : decode cX2_worst 4 = .ok (.iconst 0, 1) := dk_3 (dk_at dksX2_worst_0 4 rfl rfl)
theorem dX2_worst_5 : decode cX2_worst 5 = .ok (.istore_n 3, 1) := dk_62 (dk_at dksX2_worst_0 5 rfl rfl)
theorem dX2_worst_6 : decode cX2_worst 6 = .ok (.iload_n 3, 1) := dk_29 (dk_at dksX2_worst_0 6 rfl rfl)
theorem dX2_worst_7 : decode cX2_worst 7 = .ok (.aload_n 0, 1) := dk_42 (dk_at dksX2_worst_0 7 rfl rfl)
theorem dX2_worst_8 : decode cX2_worst 8 = .ok (.getfield 7, 3) := dk_180 0 7 (dk_at dksX2_worst_0 8 rfl rfl)
theorem dX2_worst_11 : decode cX2_worst 11 = .ok (.iconst 0, 1) := dk_3 (dk_at dksX2_worst_0 11 rfl rfl)
theorem dX2_worst_12 : decode cX2_worst 12 = .ok (.iaload, 1) := dk_46 (dk_at dksX2_worst_0 12 rfl rfl)
theorem dX2_worst_13 : decode cX2_worst 13 = .ok (.if_icmp .ge 26, 3) := dk_162 0 26 (dk_at dksX2_worst_0 13 rfl rfl)
theorem dX2_worst_16 : decode cX2_worst 16 = .ok (.iload_n 1, 1) := dk_27 (dk_at dksX2_worst_0 16 rfl rfl)
theorem dX2_worst_17 : decode cX2_worst 17 = .ok (.aload_n 0, 1) := dk_42 (dk_at dksX2_worst_0 17 rfl rfl)
theorem dX2_worst_18 : decode cX2_worst 18 = .ok (.iconst 0, 1) := dk_3 (dk_at dksX2_worst_0 18 rfl rfl)
theorem dX2_worst_19 : decode cX2_worst 19 = .ok (.iload_n 3, 1) := dk_29 (dk_at dksX2_worst_0 19 rfl rfl)
theorem dX2_worst_20 : decode cX2_worst 20 = .ok (.invokevirtual 114, 3) := dk_182 0 114 (dk_at dksX2_worst_0 20 rfl rfl)
theorem dX2_worst_23 : decode cX2_worst 23 = .ok (.ifCond .eq 7, 3) := dk_153 0 7 (dk_at dksX2_worst_1 0 rfl rfl)
theorem dX2_worst_26 : decode cX2_worst 26 = .ok (.iconst 1, 1) := dk_4 (dk_at dksX2_worst_1 3 rfl rfl)
theorem dX2_worst_27 : decode cX2_worst 27 = .ok (.goto 4, 3) := dk_167 0 4 (dk_at dksX2_worst_1 4 rfl rfl)
theorem dX2_worst_30 : decode cX2_worst 30 = .ok (.iconst 0, 1) := dk_3 (dk_at dksX2_worst_1 7 rfl rfl)
theorem dX2_worst_31 : decode cX2_worst 31 = .ok (.iadd, 1) := dk_96 (dk_at dksX2_worst_1 8 rfl rfl)
theorem dX2_worst_32 : decode cX2_worst 32 = .ok (.istore_n 1, 1) := dk_60 (dk_at dksX2_worst_1 9 rfl rfl)
theorem dX2_worst_33 : decode cX2_worst 33 = .ok (.iinc 3 1, 3) := dk_132 3 1 (dk_at dksX2_worst_1 10 rfl rfl)
theorem dX2_worst_36 : decode cX2_worst 36 = .ok (.goto (-30), 3) := dk_167 255 226 (dk_at dksX2_worst_1 13 rfl rfl)
theorem dX2_worst_39 : decode cX2_worst 39 = .ok (.iload_n 1, 1) := dk_27 (dk_at dksX2_worst_1 16 rfl rfl)
theorem dX2_worst_40 : decode cX2_worst 40 = .ok (.iconst 2, 1) := dk_5 (dk_at dksX2_worst_1 17 rfl rfl)
theorem dX2_worst_41 : decode cX2_worst 41 = .ok (.if_icmp .ge 13, 3) := dk_162 0 13 (dk_at dksX2_worst_1 18 rfl rfl)
theorem dX2_worst_44 : decode cX2_worst 44 = .ok (.iload_n 1, 1) := dk_27 (dk_at dksX2_worst_1 21 rfl rfl)
theorem dX2_worst_45 : decode cX2_worst 45 = .ok (.ifCond .ne 7, 3) := dk_154 0 7 (dk_at dksX2_worst_2 0 rfl rfl)
theorem dX2_worst_48 : decode cX2_worst 48 = .ok (.iconst (-1), 1) := dk_2 (dk_at dksX2_worst_2 3 rfl rfl)
theorem dX2_worst_49 : decode cX2_worst 49 = .ok (.goto 4, 3) := dk_167 0 4 (dk_at dksX2_worst_2 4 rfl rfl)
theorem dX2_worst_52 : decode cX2_worst 52 = .ok (.iconst 0, 1) := dk_3 (dk_at dksX2_worst_2 7 rfl rfl)
theorem dX2_worst_53 : decode cX2_worst 53 = .ok (.ireturn, 1) := dk_172 (dk_at dksX2_worst_2 8 rfl rfl)
theorem dX2_worst_54 : decode cX2_worst 54 = .ok (.aload_n 0, 1) := dk_42 (dk_at dksX2_worst_2 9 rfl rfl)
theorem dX2_worst_55 : decode cX2_worst 55 = .ok (.iconst 0, 1) := dk_3 (dk_at dksX2_worst_2 10 rfl rfl)
theorem dX2_worst_56 : decode cX2_worst 56 = .ok (.aload_n 0, 1) := dk_42 (dk_at dksX2_worst_2 11 rfl rfl)
theorem dX2_worst_57 : decode cX2_worst 57 = .ok (.getfield 7, 3) := dk_180 0 7 (dk_at dksX2_worst_2 12 rfl rfl)
theorem dX2_worst_60 : decode cX2_worst 60 = .ok (.iconst 0, 1) := dk_3 (dk_at dksX2_worst_2 15 rfl rfl)
theorem dX2_worst_61 : decode cX2_worst 61 = .ok (.iaload, 1) := dk_46 (dk_at dksX2_worst_2 16 rfl rfl)
theorem dX2_worst_62 : decode cX2_worst 62 = .ok (.invokevirtual 100, 3) := dk_182 0 100 (dk_at dksX2_worst_2 17 rfl rfl)
theorem dX2_worst_65 : decode cX2_worst 65 = .ok (.ifCond .eq 9, 3) := dk_153 0 9 (dk_at dksX2_worst_2 20 rfl rfl)
theorem dX2_worst_68 : decode cX2_worst 68 = .ok (.aload_n 0, 1) := dk_42 (dk_at dksX2_worst_2 23 rfl rfl)
theorem dX2_worst_69 : decode cX2_worst 69 = .ok (.iconst 0, 1) := dk_3 (dk_at dksX2_worst_3 0 rfl rfl)
theorem dX2_worst_70 : decode cX2_worst 70 = .ok (.invokevirtual 123, 3) := dk_182 0 123 (dk_at dksX2_worst_3 1 rfl rfl)
theorem dX2_worst_73 : decode cX2_worst 73 = .ok (.ireturn, 1) := dk_172 (dk_at dksX2_worst_3 4 rfl rfl)
theorem dX2_worst_74 : decode cX2_worst 74 = .ok (.aload_n 0, 1) := dk_42 (dk_at dksX2_worst_3 5 rfl rfl)
theorem dX2_worst_75 : decode cX2_worst 75 = .ok (.invokevirtual 127, 3) := dk_182 0 127 (dk_at dksX2_worst_3 6 rfl rfl)
theorem dX2_worst_78 : decode cX2_worst 78 = .ok (.aload_n 0, 1) := dk_42 (dk_at dksX2_worst_3 9 rfl rfl)
theorem dX2_worst_79 : decode cX2_worst 79 = .ok (.getfield 7, 3) := dk_180 0 7 (dk_at dksX2_worst_3 10 rfl rfl)
theorem dX2_worst_82 : decode cX2_worst 82 = .ok (.iconst 1, 1) := dk_4 (dk_at dksX2_worst_3 13 rfl rfl)
theorem dX2_worst_83 : decode cX2_worst 83 = .ok (.iaload, 1) := dk_46 (dk_at dksX2_worst_3 14 rfl rfl)
theorem dX2_worst_84 : decode cX2_worst 84 = .ok (.if_icmp .le 6, 3) := dk_164 0 6 (dk_at dksX2_worst_3 15 rfl rfl)
theorem dX2_worst_87 : decode cX2_worst 87 = .ok (.ldc 130, 2) := dk_18 130 (dk_at dksX2_worst_3 18 rfl rfl)
theorem dX2_worst_89 : decode cX2_worst 89 = .ok (.ireturn, 1) := dk_172 (dk_at dksX2_worst_3 20 rfl rfl)
theorem dX2_worst_90 : decode cX2_worst 90 = .ok (.iconst 0, 1) := dk_3 (dk_at dksX2_worst_3 21 rfl rfl)
theorem dX2_worst_91 : decode cX2_worst 91 = .ok (.istore_n 3, 1) := dk_62 (dk_at dksX2_worst_3 22 rfl rfl)
theorem dX2_worst_92 : decode cX2_worst 92 = .ok (.iload_n 3, 1) := dk_29 (dk_at dksX2_worst_3 23 rfl rfl)
theorem dX2_worst_93 : decode cX2_worst 93 = .ok (.aload_n 0, 1) := dk_42 (dk_at dksX2_worst_4 0 rfl rfl)
theorem dX2_worst_94 : decode cX2_worst 94 = .ok (.getfield 7, 3) := dk_180 0 7 (dk_at dksX2_worst_4 1 rfl rfl)
theorem dX2_worst_97 : decode cX2_worst 97 = .ok (.iconst 0, 1) := dk_3 (dk_at dksX2_worst_4 4 rfl rfl)
theorem dX2_worst_98 : decode cX2_worst 98 = .ok (.iaload, 1) := dk_46 (dk_at dksX2_worst_4 5 rfl rfl)
theorem dX2_worst_99 : decode cX2_worst 99 = .ok (.if_icmp .ge 101, 3) := dk_162 0 101 (dk_at dksX2_worst_4 6 rfl rfl)
theorem dX2_worst_102 : decode cX2_worst 102 = .ok (.iconst 0, 1) := dk_3 (dk_at dksX2_worst_4 9 rfl rfl)
theorem dX2_worst_103 : decode cX2_worst 103 = .ok (.istore 4, 2) := dk_54 4 (dk_at dksX2_worst_4 10 rfl rfl)
theorem dX2_worst_105 : decode cX2_worst 105 = .ok (.iload 4, 2) := dk_21 4 (dk_at dksX2_worst_4 12 rfl rfl)
theorem dX2_worst_107 : decode cX2_worst 107 = .ok (.aload_n 0, 1) := dk_42 (dk_at dksX2_worst_4 14 rfl rfl)
theorem dX2_worst_108 : decode cX2_worst 108 = .ok (.getfield 7, 3) := dk_180 0 7 (dk_at dksX2_worst_4 15 rfl rfl)
theorem dX2_worst_111 : decode cX2_worst 111 = .ok (.iconst 0, 1) := dk_3 (dk_at dksX2_worst_4 18 rfl rfl)
theorem dX2_worst_112 : decode cX2_worst 112 = .ok (.iaload, 1) := dk_46 (dk_at dksX2_worst_4 19 rfl rfl)
theorem dX2_worst_113 : decode cX2_worst 113 = .ok (.if_icmp .ge 81, 3) := dk_162 0 81 (dk_at dksX2_worst_4 20 rfl rfl)
theorem dX2_worst_116 : decode cX2_worst 116 = .ok (.iload_n 3, 1) := dk_29 (dk_at dksX2_worst_4 23 rfl rfl)
theorem dX2_worst_117 : decode cX2_worst 117 = .ok (.iload 4, 2) := dk_21 4 (dk_at dksX2_worst_5 0 rfl rfl)
theorem dX2_worst_119 : decode cX2_worst 119 = .ok (.if_icmp .eq 26, 3) := dk_159 0 26 (dk_at dksX2_worst_5 2 rfl rfl)
theorem dX2_worst_122 : decode cX2_worst 122 = .ok (.aload_n 0, 1) := dk_42 (dk_at dksX2_worst_5 5 rfl rfl)
theorem dX2_worst_123 : decode cX2_worst 123 = .ok (.iconst 0, 1) := dk_3 (dk_at dksX2_worst_5 6 rfl rfl)
theorem dX2_worst_124 : decode cX2_worst 124 = .ok (.iload_n 3, 1) := dk_29 (dk_at dksX2_worst_5 7 rfl rfl)
theorem dX2_worst_125 : decode cX2_worst 125 = .ok (.invokevirtual 114, 3) := dk_182 0 114 (dk_at dksX2_worst_5 8 rfl rfl)
theorem dX2_worst_128 : decode cX2_worst 128 = .ok (.ifCond .eq 17, 3) := dk_153 0 17 (dk_at dksX2_worst_5 11 rfl rfl)
theorem dX2_worst_131 : decode cX2_worst 131 = .ok (.aload_n 0, 1) := dk_42 (dk_at dksX2_worst_5 14 rfl rfl)
theorem dX2_worst_132 : decode cX2_worst 132 = .ok (.iconst 0, 1) := dk_3 (dk_at dksX2_worst_5 15 rfl rfl)
theorem dX2_worst_133 : decode cX2_worst 133 = .ok (.iload 4, 2) := dk_21 4 (dk_at dksX2_worst_5 16 rfl rfl)
theorem dX2_worst_135 : decode cX2_worst 135 = .ok (.invokevirtual 114, 3) := dk_182 0 114 (dk_at dksX2_worst_5 18 rfl rfl)
theorem dX2_worst_138 : decode cX2_worst 138 = .ok (.ifCond .eq 7, 3) := dk_153 0 7 (dk_at dksX2_worst_5 21 rfl rfl)
theorem dX2_worst_141 : decode cX2_worst 141 = .ok (.iconst 1, 1) := dk_4 (dk_at dksX2_worst_6 0 rfl rfl)
theorem dX2_worst_142 : decode cX2_worst 142 = .ok (.goto 4, 3) := dk_167 0 4 (dk_at dksX2_worst_6 1 rfl rfl)
theorem dX2_worst_145 : decode cX2_worst 145 = .ok (.iconst 0, 1) := dk_3 (dk_at dksX2_worst_6 4 rfl rfl)
theorem dX2_worst_146 : decode cX2_worst 146 = .ok (.istore 5, 2) := dk_54 5 (dk_at dksX2_worst_6 5 rfl rfl)
theorem dX2_worst_148 : decode cX2_worst 148 = .ok (.iload 5, 2) := dk_21 5 (dk_at dksX2_worst_6 7 rfl rfl)
theorem dX2_worst_150 : decode cX2_worst 150 = .ok (.ifCond .eq 22, 3) := dk_153 0 22 (dk_at dksX2_worst_6 9 rfl rfl)
theorem dX2_worst_153 : decode cX2_worst 153 = .ok (.aload_n 0, 1) := dk_42 (dk_at dksX2_worst_6 12 rfl rfl)
theorem dX2_worst_154 : decode cX2_worst 154 = .ok (.iload_n 3, 1) := dk_29 (dk_at dksX2_worst_6 13 rfl rfl)
theorem dX2_worst_155 : decode cX2_worst 155 = .ok (.ldc 131, 2) := dk_18 131 (dk_at dksX2_worst_6 14 rfl rfl)
theorem dX2_worst_157 : decode cX2_worst 157 = .ok (.invokevirtual 132, 3) := dk_182 0 132 (dk_at dksX2_worst_6 16 rfl rfl)
theorem dX2_worst_160 : decode cX2_worst 160 = .ok (.aload_n 0, 1) := dk_42 (dk_at dksX2_worst_6 19 rfl rfl)
theorem dX2_worst_161 : decode cX2_worst 161 = .ok (.iload 4, 2) := dk_21 4 (dk_at dksX2_worst_6 20 rfl rfl)
theorem dX2_worst_163 : decode cX2_worst 163 = .ok (.ldc 135, 2) := dk_18 135 (dk_at dksX2_worst_6 22 rfl rfl)
theorem dX2_worst_165 : decode cX2_worst 165 = .ok (.invokevirtual 132, 3) := dk_182 0 132 (dk_at dksX2_worst_7 0 rfl rfl)
theorem dX2_worst_168 : decode cX2_worst 168 = .ok (.isub, 1) := dk_100 (dk_at dksX2_worst_7 3 rfl rfl)
theorem dX2_worst_169 : decode cX2_worst 169 = .ok (.goto 4, 3) := dk_167 0 4 (dk_at dksX2_worst_7 4 rfl rfl)
theorem dX2_worst_172 : decode cX2_worst 172 = .ok (.iconst 0, 1) := dk_3 (dk_at dksX2_worst_7 7 rfl rfl)
theorem dX2_worst_173 : decode cX2_worst 173 = .ok (.istore 6, 2) := dk_54 6 (dk_at dksX2_worst_7 8 rfl rfl)
theorem dX2_worst_175 : decode cX2_worst 175 = .ok (.iload 6, 2) := dk_21 6 (dk_at dksX2_worst_7 10 rfl rfl)
theorem dX2_worst_177 : decode cX2_worst 177 = .ok (.iload_n 2, 1) := dk_28 (dk_at dksX2_worst_7 12 rfl rfl)
theorem dX2_worst_178 : decode cX2_worst 178 = .ok (.if_icmp .le 8, 3) := dk_164 0 8 (dk_at dksX2_worst_7 13 rfl rfl)
theorem dX2_worst_181 : decode cX2_worst 181 = .ok (.iload 6, 2) := dk_21 6 (dk_at dksX2_worst_7 16 rfl rfl)
theorem dX2_worst_183 : decode cX2_worst 183 = .ok (.goto 4, 3) := dk_167 0 4 (dk_at dksX2_worst_7 18 rfl rfl)
theorem dX2_worst_186 : decode cX2_worst 186 = .ok (.iload_n 2, 1) := dk_28 (dk_at dksX2_worst_7 21 rfl rfl)
theorem dX2_worst_187 : decode cX2_worst 187 = .ok (.istore_n 2, 1) := dk_61 (dk_at dksX2_worst_7 22 rfl rfl)
theorem dX2_worst_188 : decode cX2_worst 188 = .ok (.iinc 4 1, 3) := dk_132 4 1 (dk_at dksX2_worst_8 0 rfl rfl)
theorem dX2_worst_191 : decode cX2_worst 191 = .ok (.goto (-86), 3) := dk_167 255 170 (dk_at dksX2_worst_8 3 rfl rfl)
theorem dX2_worst_194 : decode cX2_worst 194 = .ok (.iinc 3 1, 3) := dk_132 3 1 (dk_at dksX2_worst_8 6 rfl rfl)
theorem dX2_worst_197 : decode cX2_worst 197 = .ok (.goto (-105), 3) := dk_167 255 151 (dk_at dksX2_worst_8 9 rfl rfl)
theorem dX2_worst_200 : decode cX2_worst 200 = .ok (.iload_n 2, 1) := dk_28 (dk_at dksX2_worst_8 12 rfl rfl)
theorem dX2_worst_201 : decode cX2_worst 201 = .ok (.ireturn, 1) := dk_172 (dk_at dksX2_worst_8 13 rfl rfl)
abbrev cX2_allStruck : ByteArray := prog_12_method_22_code
def yX2_allStruck : MethodName := ⟨RX2, "allStruck", "(II)Z"⟩
def dkwX2_allStruck_0 : List UInt8 := [5, 42, 180, 0, 7, 27, 4, 96, 46, 104, 28, 161, 0, 7, 4, 167, 0, 4, 3, 172]
abbrev dktX2_allStruck_0 : List UInt8 := dkwX2_allStruck_0 ++ []
theorem dksX2_allStruck_0 : cX2_allStruck.data.toList.drop 0 = dktX2_allStruck_0 := by decide +kernel
theorem dX2_allStruck_0 : decode cX2_allStruck 0 = .ok (.iconst 2, 1) := dk_5 (dk_at dksX2_allStruck_0 0 rfl rfl)
theorem dX2_allStruck_1 : decode cX2_allStruck 1 = .ok (.aload_n 0, 1) := dk_42 (dk_at dksX2_allStruck_0 1 rfl rfl)
theorem dX2_allStruck_2 : decode cX2_allStruck 2 = .ok (.getfield 7, 3) := dk_180 0 7 (dk_at dksX2_allStruck_0 2 rfl rfl)
theorem dX2_allStruck_5 : decode cX2_allStruck 5 = .ok (.iload_n 1, 1) := dk_27 (dk_at dksX2_allStruck_0 5 rfl rfl)
theorem dX2_allStruck_6 : decode cX2_allStruck 6 = .ok (.iconst 1, 1) := dk_4 (dk_at dksX2_allStruck_0 6 rfl rfl)
theorem dX2_allStruck_7 : decode cX2_allStruck 7 = .ok (.iadd, 1) := dk_96 (dk_at dksX2_allStruck_0 7 rfl rfl)
theorem dX2_allStruck_8 : decode cX2_allStruck 8 = .ok (.iaload, 1) := dk_46 (dk_at dksX2_allStruck_0 8 rfl rfl)
theorem dX2_allStruck_9 : decode cX2_allStruck 9 = .ok (.imul, 1) := dk_104 (dk_at dksX2_allStruck_0 9 rfl rfl)
theorem dX2_allStruck_10 : decode cX2_allStruck 10 = .ok (.iload_n 2, 1) := dk_28 (dk_at dksX2_allStruck_0 10 rfl rfl)
theorem dX2_allStruck_11 : decode cX2_allStruck 11 = .ok (.if_icmp .lt 7, 3) := dk_161 0 7 (dk_at dksX2_allStruck_0 11 rfl rfl)
theorem dX2_allStruck_14 : decode cX2_allStruck 14 = .ok (.iconst 1, 1) := dk_4 (dk_at dksX2_allStruck_0 14 rfl rfl)
theorem dX2_allStruck_15 : decode cX2_allStruck 15 = .ok (.goto 4, 3) := dk_167 0 4 (dk_at dksX2_allStruck_0 15 rfl rfl)
theorem dX2_allStruck_18 : decode cX2_allStruck 18 = .ok (.iconst 0, 1) := dk_3 (dk_at dksX2_allStruck_0 18 rfl rfl)
theorem dX2_allStruck_19 : decode cX2_allStruck 19 = .ok (.ireturn, 1) := dk_172 (dk_at dksX2_allStruck_0 19 rfl rfl)
abbrev cX2_liars : ByteArray := prog_12_method_28_code
def yX2_liars : MethodName := ⟨RX2, "liars", "()I"⟩
def dkwX2_liars_1 : List UInt8 := [4, 167, 0, 4, 3, 96, 60, 132, 2, 1, 167, 255, 226, 27, 172]
abbrev dktX2_liars_1 : List UInt8 := dkwX2_liars_1 ++ []
def dkwX2_liars_0 : List UInt8 := [3, 60, 3, 61, 28, 42, 180, 0, 7, 3, 46, 162, 0, 26, 27, 42, 3, 28, 182, 0, 120, 153, 0, 7]
abbrev dktX2_liars_0 : List UInt8 := dkwX2_liars_0 ++ dktX2_liars_1
theorem dksX2_liars_0 : cX2_liars.data.toList.drop 0 = dktX2_liars_0 := by decide +kernel
theorem dksX2_liars_1 : cX2_liars.data.toList.drop 24 = dktX2_liars_1 := dk_seg dksX2_liars_0 24 rfl rfl
theorem dX2_liars_0 : decode cX2_liars 0 = .ok (.iconst 0, 1) := dk_3 (dk_at dksX2_liars_0 0 rfl rfl)
theorem dX2_liars_1 : decode cX2_liars 1 = .ok (.istore_n 1, 1) := dk_60 (dk_at dksX2_liars_0 1 rfl rfl)
theorem dX2_liars_2 : decode cX2_liars 2 = .ok (.iconst 0, 1) := dk_3 (dk_at dksX2_liars_0 2 rfl rfl)
theorem dX2_liars_3 : decode cX2_liars 3 = .ok (.istore_n 2, 1) := dk_61 (dk_at dksX2_liars_0 3 rfl rfl)
theorem dX2_liars_4 : decode cX2_liars 4 = .ok (.iload_n 2, 1) := dk_28 (dk_at dksX2_liars_0 4 rfl rfl)
theorem dX2_liars_5 : decode cX2_liars 5 = .ok (.aload_n 0, 1) := dk_42 (dk_at dksX2_liars_0 5 rfl rfl)
theorem dX2_liars_6 : decode cX2_liars 6 = .ok (.getfield 7, 3) := dk_180 0 7 (dk_at dksX2_liars_0 6 rfl rfl)
theorem dX2_liars_9 : decode cX2_liars 9 = .ok (.iconst 0, 1) := dk_3 (dk_at dksX2_liars_0 9 rfl rfl)
theorem dX2_liars_10 : decode cX2_liars 10 = .ok (.iaload, 1) := dk_46 (dk_at dksX2_liars_0 10 rfl rfl)
theorem dX2_liars_11 : decode cX2_liars 11 = .ok (.if_icmp .ge 26, 3) := dk_162 0 26 (dk_at dksX2_liars_0 11 rfl rfl)
theorem dX2_liars_14 : decode cX2_liars 14 = .ok (.iload_n 1, 1) := dk_27 (dk_at dksX2_liars_0 14 rfl rfl)
theorem dX2_liars_15 : decode cX2_liars 15 = .ok (.aload_n 0, 1) := dk_42 (dk_at dksX2_liars_0 15 rfl rfl)
theorem dX2_liars_16 : decode cX2_liars 16 = .ok (.iconst 0, 1) := dk_3 (dk_at dksX2_liars_0 16 rfl rfl)
theorem dX2_liars_17 : decode cX2_liars 17 = .ok (.iload_n 2, 1) := dk_28 (dk_at dksX2_liars_0 17 rfl rfl)
theorem dX2_liars_18 : decode cX2_liars 18 = .ok (.invokevirtual 120, 3) := dk_182 0 120 (dk_at dksX2_liars_0 18 rfl rfl)
theorem dX2_liars_21 : decode cX2_liars 21 = .ok (.ifCond .eq 7, 3) := dk_153 0 7 (dk_at dksX2_liars_0 21 rfl rfl)
theorem dX2_liars_24 : decode cX2_liars 24 = .ok (.iconst 1, 1) := dk_4 (dk_at dksX2_liars_1 0 rfl rfl)
theorem dX2_liars_25 : decode cX2_liars 25 = .ok (.goto 4, 3) := dk_167 0 4 (dk_at dksX2_liars_1 1 rfl rfl)
theorem dX2_liars_28 : decode cX2_liars 28 = .ok (.iconst 0, 1) := dk_3 (dk_at dksX2_liars_1 4 rfl rfl)
theorem dX2_liars_29 : decode cX2_liars 29 = .ok (.iadd, 1) := dk_96 (dk_at dksX2_liars_1 5 rfl rfl)
theorem dX2_liars_30 : decode cX2_liars 30 = .ok (.istore_n 1, 1) := dk_60 (dk_at dksX2_liars_1 6 rfl rfl)
theorem dX2_liars_31 : decode cX2_liars 31 = .ok (.iinc 2 1, 3) := dk_132 2 1 (dk_at dksX2_liars_1 7 rfl rfl)
theorem dX2_liars_34 : decode cX2_liars 34 = .ok (.goto (-30), 3) := dk_167 255 226 (dk_at dksX2_liars_1 10 rfl rfl)
theorem dX2_liars_37 : decode cX2_liars 37 = .ok (.iload_n 1, 1) := dk_27 (dk_at dksX2_liars_1 13 rfl rfl)
theorem dX2_liars_38 : decode cX2_liars 38 = .ok (.ireturn, 1) := dk_172 (dk_at dksX2_liars_1 14 rfl rfl)
abbrev cX2_isLiar : ByteArray := prog_12_method_9_code
def yX2_isLiar : MethodName := ⟨RX2, "isLiar", "(II)Z"⟩
def dkwX2_isLiar_1 : List UInt8 := [96, 46, 154, 0, 7, 4, 167, 0, 4, 3, 172]
abbrev dktX2_isLiar_1 : List UInt8 := dkwX2_isLiar_1 ++ []
def dkwX2_isLiar_0 : List UInt8 := [42, 180, 0, 7, 27, 16, 27, 96, 28, 96, 46, 4, 160, 0, 21, 42, 180, 0, 7, 27, 16, 35, 96, 28]
abbrev dktX2_isLiar_0 : List UInt8 := dkwX2_isLiar_0 ++ dktX2_isLiar_1
theorem dksX2_isLiar_0 : cX2_isLiar.data.toList.drop 0 = dktX2_isLiar_0 := by decide +kernel
theorem dksX2_isLiar_1 : cX2_isLiar.data.toList.drop 24 = dktX2_isLiar_1 := dk_seg dksX2_isLiar_0 24 rfl rfl
theorem dX2_isLiar_0 : decode cX2_isLiar 0 = .ok (.aload_n 0, 1) := dk_42 (dk_at dksX2_isLiar_0 0 rfl rfl)
theorem dX2_isLiar_1 : decode cX2_isLiar 1 = .ok (.getfield 7, 3) := dk_180 0 7 (dk_at dksX2_isLiar_0 1 rfl rfl)
theorem dX2_isLiar_4 : decode cX2_isLiar 4 = .ok (.iload_n 1, 1) := dk_27 (dk_at dksX2_isLiar_0 4 rfl rfl)
theorem dX2_isLiar_5 : decode cX2_isLiar 5 = .ok (.bipush 27, 2) := dk_16 27 (dk_at dksX2_isLiar_0 5 rfl rfl)
theorem dX2_isLiar_7 : decode cX2_isLiar 7 = .ok (.iadd, 1) := dk_96 (dk_at dksX2_isLiar_0 7 rfl rfl)
theorem dX2_isLiar_8 : decode cX2_isLiar 8 = .ok (.iload_n 2, 1) := dk_28 (dk_at dksX2_isLiar_0 8 rfl rfl)
theorem dX2_isLiar_9 : decode cX2_isLiar 9 = .ok (.iadd, 1) := dk_96 (dk_at dksX2_isLiar_0 9 rfl rfl)
theorem dX2_isLiar_10 : decode cX2_isLiar 10 = .ok (.iaload, 1) := dk_46 (dk_at dksX2_isLiar_0 10 rfl rfl)
theorem dX2_isLiar_11 : decode cX2_isLiar 11 = .ok (.iconst 1, 1) := dk_4 (dk_at dksX2_isLiar_0 11 rfl rfl)
theorem dX2_isLiar_12 : decode cX2_isLiar 12 = .ok (.if_icmp .ne 21, 3) := dk_160 0 21 (dk_at dksX2_isLiar_0 12 rfl rfl)
theorem dX2_isLiar_15 : decode cX2_isLiar 15 = .ok (.aload_n 0, 1) := dk_42 (dk_at dksX2_isLiar_0 15 rfl rfl)
theorem dX2_isLiar_16 : decode cX2_isLiar 16 = .ok (.getfield 7, 3) := dk_180 0 7 (dk_at dksX2_isLiar_0 16 rfl rfl)
theorem dX2_isLiar_19 : decode cX2_isLiar 19 = .ok (.iload_n 1, 1) := dk_27 (dk_at dksX2_isLiar_0 19 rfl rfl)
theorem dX2_isLiar_20 : decode cX2_isLiar 20 = .ok (.bipush 35, 2) := dk_16 35 (dk_at dksX2_isLiar_0 20 rfl rfl)
theorem dX2_isLiar_22 : decode cX2_isLiar 22 = .ok (.iadd, 1) := dk_96 (dk_at dksX2_isLiar_0 22 rfl rfl)
theorem dX2_isLiar_23 : decode cX2_isLiar 23 = .ok (.iload_n 2, 1) := dk_28 (dk_at dksX2_isLiar_0 23 rfl rfl)
theorem dX2_isLiar_24 : decode cX2_isLiar 24 = .ok (.iadd, 1) := dk_96 (dk_at dksX2_isLiar_1 0 rfl rfl)
theorem dX2_isLiar_25 : decode cX2_isLiar 25 = .ok (.iaload, 1) := dk_46 (dk_at dksX2_isLiar_1 1 rfl rfl)
theorem dX2_isLiar_26 : decode cX2_isLiar 26 = .ok (.ifCond .ne 7, 3) := dk_154 0 7 (dk_at dksX2_isLiar_1 2 rfl rfl)
theorem dX2_isLiar_29 : decode cX2_isLiar 29 = .ok (.iconst 1, 1) := dk_4 (dk_at dksX2_isLiar_1 5 rfl rfl)
theorem dX2_isLiar_30 : decode cX2_isLiar 30 = .ok (.goto 4, 3) := dk_167 0 4 (dk_at dksX2_isLiar_1 6 rfl rfl)
theorem dX2_isLiar_33 : decode cX2_isLiar 33 = .ok (.iconst 0, 1) := dk_3 (dk_at dksX2_isLiar_1 9 rfl rfl)
theorem dX2_isLiar_34 : decode cX2_isLiar 34 = .ok (.ireturn, 1) := dk_172 (dk_at dksX2_isLiar_1 10 rfl rfl)
abbrev cX2_extreme : ByteArray := prog_12_method_29_code
def yX2_extreme : MethodName := ⟨RX2, "extreme", "(II)I"⟩
def dkwX2_extreme_2 : List UInt8 := [180, 0, 7, 3, 46, 182, 0, 111, 172]
abbrev dktX2_extreme_2 : List UInt8 := dkwX2_extreme_2 ++ []
def dkwX2_extreme_1 : List UInt8 := [167, 0, 10, 42, 3, 29, 27, 182, 0, 104, 182, 0, 108, 132, 3, 1, 167, 255, 218, 42, 3, 42]
abbrev dktX2_extreme_1 : List UInt8 := dkwX2_extreme_1 ++ dktX2_extreme_2
def dkwX2_extreme_0 : List UInt8 := [3, 62, 29, 42, 180, 0, 7, 3, 46, 162, 0, 34, 42, 29, 42, 3, 29, 182, 0, 120, 153, 0, 7, 28]
abbrev dktX2_extreme_0 : List UInt8 := dkwX2_extreme_0 ++ dktX2_extreme_1
theorem dksX2_extreme_0 : cX2_extreme.data.toList.drop 0 = dktX2_extreme_0 := by decide +kernel
theorem dksX2_extreme_1 : cX2_extreme.data.toList.drop 24 = dktX2_extreme_1 := dk_seg dksX2_extreme_0 24 rfl rfl
theorem dksX2_extreme_2 : cX2_extreme.data.toList.drop 46 = dktX2_extreme_2 := dk_seg dksX2_extreme_1 22 rfl rfl
theorem dX2_extreme_0 : decode cX2_extreme 0 = .ok (.iconst 0, 1) := dk_3 (dk_at dksX2_extreme_0 0 rfl rfl)
theorem dX2_extreme_1 : decode cX2_extreme 1 = .ok (.istore_n 3, 1) := dk_62 (dk_at dksX2_extreme_0 1 rfl rfl)
theorem dX2_extreme_2 : decode cX2_extreme 2 = .ok (.iload_n 3, 1) := dk_29 (dk_at dksX2_extreme_0 2 rfl rfl)
theorem dX2_extreme_3 : decode cX2_extreme 3 = .ok (.aload_n 0, 1) := dk_42 (dk_at dksX2_extreme_0 3 rfl rfl)
theorem dX2_extreme_4 : decode cX2_extreme 4 = .ok (.getfield 7, 3) := dk_180 0 7 (dk_at dksX2_extreme_0 4 rfl rfl)
theorem dX2_extreme_7 : decode cX2_extreme 7 = .ok (.iconst 0, 1) := dk_3 (dk_at dksX2_extreme_0 7 rfl rfl)
theorem dX2_extreme_8 : decode cX2_extreme 8 = .ok (.iaload, 1) := dk_46 (dk_at dksX2_extreme_0 8 rfl rfl)
theorem dX2_extreme_9 : decode cX2_extreme 9 = .ok (.if_icmp .ge 34, 3) := dk_162 0 34 (dk_at dksX2_extreme_0 9 rfl rfl)
theorem dX2_extreme_12 : decode cX2_extreme 12 = .ok (.aload_n 0, 1) := dk_42 (dk_at dksX2_extreme_0 12 rfl rfl)
theorem dX2_extreme_13 : decode cX2_extreme 13 = .ok (.iload_n 3, 1) := dk_29 (dk_at dksX2_extreme_0 13 rfl rfl)
theorem dX2_extreme_14 : decode cX2_extreme 14 = .ok (.aload_n 0, 1) := dk_42 (dk_at dksX2_extreme_0 14 rfl rfl)
theorem dX2_extreme_15 : decode cX2_extreme 15 = .ok (.iconst 0, 1) := dk_3 (dk_at dksX2_extreme_0 15 rfl rfl)
theorem dX2_extreme_16 : decode cX2_extreme 16 = .ok (.iload_n 3, 1) := dk_29 (dk_at dksX2_extreme_0 16 rfl rfl)
theorem dX2_extreme_17 : decode cX2_extreme 17 = .ok (.invokevirtual 120, 3) := dk_182 0 120 (dk_at dksX2_extreme_0 17 rfl rfl)
theorem dX2_extreme_20 : decode cX2_extreme 20 = .ok (.ifCond .eq 7, 3) := dk_153 0 7 (dk_at dksX2_extreme_0 20 rfl rfl)
theorem dX2_extreme_23 : decode cX2_extreme 23 = .ok (.iload_n 2, 1) := dk_28 (dk_at dksX2_extreme_0 23 rfl rfl)
theorem dX2_extreme_24 : decode cX2_extreme 24 = .ok (.goto 10, 3) := dk_167 0 10 (dk_at dksX2_extreme_1 0 rfl rfl)
theorem dX2_extreme_27 : decode cX2_extreme 27 = .ok (.aload_n 0, 1) := dk_42 (dk_at dksX2_extreme_1 3 rfl rfl)
theorem dX2_extreme_28 : decode cX2_extreme 28 = .ok (.iconst 0, 1) := dk_3 (dk_at dksX2_extreme_1 4 rfl rfl)
theorem dX2_extreme_29 : decode cX2_extreme 29 = .ok (.iload_n 3, 1) := dk_29 (dk_at dksX2_extreme_1 5 rfl rfl)
theorem dX2_extreme_30 : decode cX2_extreme 30 = .ok (.iload_n 1, 1) := dk_27 (dk_at dksX2_extreme_1 6 rfl rfl)
theorem dX2_extreme_31 : decode cX2_extreme 31 = .ok (.invokevirtual 104, 3) := dk_182 0 104 (dk_at dksX2_extreme_1 7 rfl rfl)
theorem dX2_extreme_34 : decode cX2_extreme 34 = .ok (.invokevirtual 108, 3) := dk_182 0 108 (dk_at dksX2_extreme_1 10 rfl rfl)
theorem dX2_extreme_37 : decode cX2_extreme 37 = .ok (.iinc 3 1, 3) := dk_132 3 1 (dk_at dksX2_extreme_1 13 rfl rfl)
theorem dX2_extreme_40 : decode cX2_extreme 40 = .ok (.goto (-38), 3) := dk_167 255 218 (dk_at dksX2_extreme_1 16 rfl rfl)
theorem dX2_extreme_43 : decode cX2_extreme 43 = .ok (.aload_n 0, 1) := dk_42 (dk_at dksX2_extreme_1 19 rfl rfl)
theorem dX2_extreme_44 : decode cX2_extreme 44 = .ok (.iconst 0, 1) := dk_3 (dk_at dksX2_extreme_1 20 rfl rfl)
theorem dX2_extreme_45 : decode cX2_extreme 45 = .ok (.aload_n 0, 1) := dk_42 (dk_at dksX2_extreme_1 21 rfl rfl)
theorem dX2_extreme_46 : decode cX2_extreme 46 = .ok (.getfield 7, 3) := dk_180 0 7 (dk_at dksX2_extreme_2 0 rfl rfl)
theorem dX2_extreme_49 : decode cX2_extreme 49 = .ok (.iconst 0, 1) := dk_3 (dk_at dksX2_extreme_2 3 rfl rfl)
theorem dX2_extreme_50 : decode cX2_extreme 50 = .ok (.iaload, 1) := dk_46 (dk_at dksX2_extreme_2 4 rfl rfl)
theorem dX2_extreme_51 : decode cX2_extreme 51 = .ok (.invokevirtual 111, 3) := dk_182 0 111 (dk_at dksX2_extreme_2 5 rfl rfl)
theorem dX2_extreme_54 : decode cX2_extreme 54 = .ok (.ireturn, 1) := dk_172 (dk_at dksX2_extreme_2 8 rfl rfl)
abbrev cX2_heardOf : ByteArray := prog_12_method_20_code
def yX2_heardOf : MethodName := ⟨RX2, "heardOf", "(III)I"⟩
def dkwX2_heardOf_3 : List UInt8 := [167, 0, 22, 42, 27, 28, 182, 0, 97, 42, 180, 0, 7, 27, 16, 43, 96, 21, 4, 96, 46, 96, 172]
abbrev dktX2_heardOf_3 : List UInt8 := dkwX2_heardOf_3 ++ []
def dkwX2_heardOf_2 : List UInt8 := [160, 0, 25, 42, 27, 29, 182, 0, 97, 42, 180, 0, 7, 27, 16, 107, 96, 21, 4, 96, 46, 96]
abbrev dktX2_heardOf_2 : List UInt8 := dkwX2_heardOf_2 ++ dktX2_heardOf_3
def dkwX2_heardOf_1 : List UInt8 := [182, 0, 97, 172, 16, 8, 28, 104, 29, 96, 54, 4, 42, 180, 0, 7, 27, 16, 27, 96, 28, 96, 46, 4]
abbrev dktX2_heardOf_1 : List UInt8 := dkwX2_heardOf_1 ++ dktX2_heardOf_2
def dkwX2_heardOf_0 : List UInt8 := [28, 29, 159, 0, 18, 42, 180, 0, 7, 27, 16, 35, 96, 28, 96, 46, 4, 160, 0, 10, 42, 27, 29]
abbrev dktX2_heardOf_0 : List UInt8 := dkwX2_heardOf_0 ++ dktX2_heardOf_1
theorem dksX2_heardOf_0 : cX2_heardOf.data.toList.drop 0 = dktX2_heardOf_0 := by decide +kernel
theorem dksX2_heardOf_1 : cX2_heardOf.data.toList.drop 23 = dktX2_heardOf_1 := dk_seg dksX2_heardOf_0 23 rfl rfl
theorem dksX2_heardOf_2 : cX2_heardOf.data.toList.drop 47 = dktX2_heardOf_2 := dk_seg dksX2_heardOf_1 24 rfl rfl
theorem dksX2_heardOf_3 : cX2_heardOf.data.toList.drop 69 = dktX2_heardOf_3 := dk_seg dksX2_heardOf_2 22 rfl rfl
theorem dX2_heardOf_0 : decode cX2_heardOf 0 = .ok (.iload_n 2, 1) := dk_28 (dk_at dksX2_heardOf_0 0 rfl rfl)
theorem dX2_heardOf_1 : decode cX2_heardOf 1 = .ok (.iload_n 3, 1) := dk_29 (dk_at dksX2_heardOf_0 1 rfl rfl)
theorem dX2_heardOf_2 : decode cX2_heardOf 2 = .ok (.if_icmp .eq 18, 3) := dk_159 0 18 (dk_at dksX2_heardOf_0 2 rfl rfl)
theorem dX2_heardOf_5 : decode cX2_heardOf 5 = .ok (.aload_n 0, 1) := dk_42 (dk_at dksX2_heardOf_0 5 rfl rfl)
theorem dX2_heardOf_6 : decode cX2_heardOf 6 = .ok (.getfield 7, 3) := dk_180 0 7 (dk_at dksX2_heardOf_0 6 rfl rfl)
theorem dX2_heardOf_9 : decode cX2_heardOf 9 = .ok (.iload_n 1, 1) := dk_27 (dk_at dksX2_heardOf_0 9 rfl rfl)
theorem dX2_heardOf_10 : decode cX2_heardOf 10 = .ok (.bipush 35, 2) := dk_16 35 (dk_at dksX2_heardOf_0 10 rfl rfl)
theorem dX2_heardOf_12 : decode cX2_heardOf 12 = .ok (.iadd, 1) := dk_96 (dk_at dksX2_heardOf_0 12 rfl rfl)
theorem dX2_heardOf_13 : decode cX2_heardOf 13 = .ok (.iload_n 2, 1) := dk_28 (dk_at dksX2_heardOf_0 13 rfl rfl)
theorem dX2_heardOf_14 : decode cX2_heardOf 14 = .ok (.iadd, 1) := dk_96 (dk_at dksX2_heardOf_0 14 rfl rfl)
theorem dX2_heardOf_15 : decode cX2_heardOf 15 = .ok (.iaload, 1) := dk_46 (dk_at dksX2_heardOf_0 15 rfl rfl)
theorem dX2_heardOf_16 : decode cX2_heardOf 16 = .ok (.iconst 1, 1) := dk_4 (dk_at dksX2_heardOf_0 16 rfl rfl)
theorem dX2_heardOf_17 : decode cX2_heardOf 17 = .ok (.if_icmp .ne 10, 3) := dk_160 0 10 (dk_at dksX2_heardOf_0 17 rfl rfl)
theorem dX2_heardOf_20 : decode cX2_heardOf 20 = .ok (.aload_n 0, 1) := dk_42 (dk_at dksX2_heardOf_0 20 rfl rfl)
theorem dX2_heardOf_21 : decode cX2_heardOf 21 = .ok (.iload_n 1, 1) := dk_27 (dk_at dksX2_heardOf_0 21 rfl rfl)
theorem dX2_heardOf_22 : decode cX2_heardOf 22 = .ok (.iload_n 3, 1) := dk_29 (dk_at dksX2_heardOf_0 22 rfl rfl)
theorem dX2_heardOf_23 : decode cX2_heardOf 23 = .ok (.invokevirtual 97, 3) := dk_182 0 97 (dk_at dksX2_heardOf_1 0 rfl rfl)
theorem dX2_heardOf_26 : decode cX2_heardOf 26 = .ok (.ireturn, 1) := dk_172 (dk_at dksX2_heardOf_1 3 rfl rfl)
theorem dX2_heardOf_27 : decode cX2_heardOf 27 = .ok (.bipush 8, 2) := dk_16 8 (dk_at dksX2_heardOf_1 4 rfl rfl)
theorem dX2_heardOf_29 : decode cX2_heardOf 29 = .ok (.iload_n 2, 1) := dk_28 (dk_at dksX2_heardOf_1 6 rfl rfl)
theorem dX2_heardOf_30 : decode cX2_heardOf 30 = .ok (.imul, 1) := dk_104 (dk_at dksX2_heardOf_1 7 rfl rfl)
theorem dX2_heardOf_31 : decode cX2_heardOf 31 = .ok (.iload_n 3, 1) := dk_29 (dk_at dksX2_heardOf_1 8 rfl rfl)
theorem dX2_heardOf_32 : decode cX2_heardOf 32 = .ok (.iadd, 1) := dk_96 (dk_at dksX2_heardOf_1 9 rfl rfl)
theorem dX2_heardOf_33 : decode cX2_heardOf 33 = .ok (.istore 4, 2) := dk_54 4 (dk_at dksX2_heardOf_1 10 rfl rfl)
theorem dX2_heardOf_35 : decode cX2_heardOf 35 = .ok (.aload_n 0, 1) := dk_42 (dk_at dksX2_heardOf_1 12 rfl rfl)
theorem dX2_heardOf_36 : decode cX2_heardOf 36 = .ok (.getfield 7, 3) := dk_180 0 7 (dk_at dksX2_heardOf_1 13 rfl rfl)
theorem dX2_heardOf_39 : decode cX2_heardOf 39 = .ok (.iload_n 1, 1) := dk_27 (dk_at dksX2_heardOf_1 16 rfl rfl)
theorem dX2_heardOf_40 : decode cX2_heardOf 40 = .ok (.bipush 27, 2) := dk_16 27 (dk_at dksX2_heardOf_1 17 rfl rfl)
theorem dX2_heardOf_42 : decode cX2_heardOf 42 = .ok (.iadd, 1) := dk_96 (dk_at dksX2_heardOf_1 19 rfl rfl)
theorem dX2_heardOf_43 : decode cX2_heardOf 43 = .ok (.iload_n 2, 1) := dk_28 (dk_at dksX2_heardOf_1 20 rfl rfl)
theorem dX2_heardOf_44 : decode cX2_heardOf 44 = .ok (.iadd, 1) := dk_96 (dk_at dksX2_heardOf_1 21 rfl rfl)
theorem dX2_heardOf_45 : decode cX2_heardOf 45 = .ok (.iaload, 1) := dk_46 (dk_at dksX2_heardOf_1 22 rfl rfl)
theorem dX2_heardOf_46 : decode cX2_heardOf 46 = .ok (.iconst 1, 1) := dk_4 (dk_at dksX2_heardOf_1 23 rfl rfl)
theorem dX2_heardOf_47 : decode cX2_heardOf 47 = .ok (.if_icmp .ne 25, 3) := dk_160 0 25 (dk_at dksX2_heardOf_2 0 rfl rfl)
theorem dX2_heardOf_50 : decode cX2_heardOf 50 = .ok (.aload_n 0, 1) := dk_42 (dk_at dksX2_heardOf_2 3 rfl rfl)
theorem dX2_heardOf_51 : decode cX2_heardOf 51 = .ok (.iload_n 1, 1) := dk_27 (dk_at dksX2_heardOf_2 4 rfl rfl)
theorem dX2_heardOf_52 : decode cX2_heardOf 52 = .ok (.iload_n 3, 1) := dk_29 (dk_at dksX2_heardOf_2 5 rfl rfl)
theorem dX2_heardOf_53 : decode cX2_heardOf 53 = .ok (.invokevirtual 97, 3) := dk_182 0 97 (dk_at dksX2_heardOf_2 6 rfl rfl)
theorem dX2_heardOf_56 : decode cX2_heardOf 56 = .ok (.aload_n 0, 1) := dk_42 (dk_at dksX2_heardOf_2 9 rfl rfl)
theorem dX2_heardOf_57 : decode cX2_heardOf 57 = .ok (.getfield 7, 3) := dk_180 0 7 (dk_at dksX2_heardOf_2 10 rfl rfl)
theorem dX2_heardOf_60 : decode cX2_heardOf 60 = .ok (.iload_n 1, 1) := dk_27 (dk_at dksX2_heardOf_2 13 rfl rfl)
theorem dX2_heardOf_61 : decode cX2_heardOf 61 = .ok (.bipush 107, 2) := dk_16 107 (dk_at dksX2_heardOf_2 14 rfl rfl)
theorem dX2_heardOf_63 : decode cX2_heardOf 63 = .ok (.iadd, 1) := dk_96 (dk_at dksX2_heardOf_2 16 rfl rfl)
theorem dX2_heardOf_64 : decode cX2_heardOf 64 = .ok (.iload 4, 2) := dk_21 4 (dk_at dksX2_heardOf_2 17 rfl rfl)
theorem dX2_heardOf_66 : decode cX2_heardOf 66 = .ok (.iadd, 1) := dk_96 (dk_at dksX2_heardOf_2 19 rfl rfl)
theorem dX2_heardOf_67 : decode cX2_heardOf 67 = .ok (.iaload, 1) := dk_46 (dk_at dksX2_heardOf_2 20 rfl rfl)
theorem dX2_heardOf_68 : decode cX2_heardOf 68 = .ok (.iadd, 1) := dk_96 (dk_at dksX2_heardOf_2 21 rfl rfl)
theorem dX2_heardOf_69 : decode cX2_heardOf 69 = .ok (.goto 22, 3) := dk_167 0 22 (dk_at dksX2_heardOf_3 0 rfl rfl)
theorem dX2_heardOf_72 : decode cX2_heardOf 72 = .ok (.aload_n 0, 1) := dk_42 (dk_at dksX2_heardOf_3 3 rfl rfl)
theorem dX2_heardOf_73 : decode cX2_heardOf 73 = .ok (.iload_n 1, 1) := dk_27 (dk_at dksX2_heardOf_3 4 rfl rfl)
theorem dX2_heardOf_74 : decode cX2_heardOf 74 = .ok (.iload_n 2, 1) := dk_28 (dk_at dksX2_heardOf_3 5 rfl rfl)
theorem dX2_heardOf_75 : decode cX2_heardOf 75 = .ok (.invokevirtual 97, 3) := dk_182 0 97 (dk_at dksX2_heardOf_3 6 rfl rfl)
theorem dX2_heardOf_78 : decode cX2_heardOf 78 = .ok (.aload_n 0, 1) := dk_42 (dk_at dksX2_heardOf_3 9 rfl rfl)
theorem dX2_heardOf_79 : decode cX2_heardOf 79 = .ok (.getfield 7, 3) := dk_180 0 7 (dk_at dksX2_heardOf_3 10 rfl rfl)
theorem dX2_heardOf_82 : decode cX2_heardOf 82 = .ok (.iload_n 1, 1) := dk_27 (dk_at dksX2_heardOf_3 13 rfl rfl)
theorem dX2_heardOf_83 : decode cX2_heardOf 83 = .ok (.bipush 43, 2) := dk_16 43 (dk_at dksX2_heardOf_3 14 rfl rfl)
theorem dX2_heardOf_85 : decode cX2_heardOf 85 = .ok (.iadd, 1) := dk_96 (dk_at dksX2_heardOf_3 16 rfl rfl)
theorem dX2_heardOf_86 : decode cX2_heardOf 86 = .ok (.iload 4, 2) := dk_21 4 (dk_at dksX2_heardOf_3 17 rfl rfl)
theorem dX2_heardOf_88 : decode cX2_heardOf 88 = .ok (.iadd, 1) := dk_96 (dk_at dksX2_heardOf_3 19 rfl rfl)
theorem dX2_heardOf_89 : decode cX2_heardOf 89 = .ok (.iaload, 1) := dk_46 (dk_at dksX2_heardOf_3 20 rfl rfl)
theorem dX2_heardOf_90 : decode cX2_heardOf 90 = .ok (.iadd, 1) := dk_96 (dk_at dksX2_heardOf_3 21 rfl rfl)
theorem dX2_heardOf_91 : decode cX2_heardOf 91 = .ok (.ireturn, 1) := dk_172 (dk_at dksX2_heardOf_3 22 rfl rfl)
abbrev cX2_put : ByteArray := prog_12_method_21_code
def yX2_put : MethodName := ⟨RX2, "put", "(II)V"⟩
def dkwX2_put_1 : List UInt8 := [180, 0, 26, 29, 4, 100, 46, 79, 132, 3, 255, 167, 255, 223, 42, 180, 0, 26, 29, 28, 79, 177]
abbrev dktX2_put_1 : List UInt8 := dkwX2_put_1 ++ []
def dkwX2_put_0 : List UInt8 := [27, 62, 29, 158, 0, 35, 42, 180, 0, 26, 29, 4, 100, 46, 28, 164, 0, 23, 42, 180, 0, 26, 29, 42]
abbrev dktX2_put_0 : List UInt8 := dkwX2_put_0 ++ dktX2_put_1
theorem dksX2_put_0 : cX2_put.data.toList.drop 0 = dktX2_put_0 := by decide +kernel
theorem dksX2_put_1 : cX2_put.data.toList.drop 24 = dktX2_put_1 := dk_seg dksX2_put_0 24 rfl rfl
theorem dX2_put_0 : decode cX2_put 0 = .ok (.iload_n 1, 1) := dk_27 (dk_at dksX2_put_0 0 rfl rfl)
theorem dX2_put_1 : decode cX2_put 1 = .ok (.istore_n 3, 1) := dk_62 (dk_at dksX2_put_0 1 rfl rfl)
theorem dX2_put_2 : decode cX2_put 2 = .ok (.iload_n 3, 1) := dk_29 (dk_at dksX2_put_0 2 rfl rfl)
theorem dX2_put_3 : decode cX2_put 3 = .ok (.ifCond .le 35, 3) := dk_158 0 35 (dk_at dksX2_put_0 3 rfl rfl)
theorem dX2_put_6 : decode cX2_put 6 = .ok (.aload_n 0, 1) := dk_42 (dk_at dksX2_put_0 6 rfl rfl)
theorem dX2_put_7 : decode cX2_put 7 = .ok (.getfield 26, 3) := dk_180 0 26 (dk_at dksX2_put_0 7 rfl rfl)
theorem dX2_put_10 : decode cX2_put 10 = .ok (.iload_n 3, 1) := dk_29 (dk_at dksX2_put_0 10 rfl rfl)
theorem dX2_put_11 : decode cX2_put 11 = .ok (.iconst 1, 1) := dk_4 (dk_at dksX2_put_0 11 rfl rfl)
theorem dX2_put_12 : decode cX2_put 12 = .ok (.isub, 1) := dk_100 (dk_at dksX2_put_0 12 rfl rfl)
theorem dX2_put_13 : decode cX2_put 13 = .ok (.iaload, 1) := dk_46 (dk_at dksX2_put_0 13 rfl rfl)
theorem dX2_put_14 : decode cX2_put 14 = .ok (.iload_n 2, 1) := dk_28 (dk_at dksX2_put_0 14 rfl rfl)
theorem dX2_put_15 : decode cX2_put 15 = .ok (.if_icmp .le 23, 3) := dk_164 0 23 (dk_at dksX2_put_0 15 rfl rfl)
theorem dX2_put_18 : decode cX2_put 18 = .ok (.aload_n 0, 1) := dk_42 (dk_at dksX2_put_0 18 rfl rfl)
theorem dX2_put_19 : decode cX2_put 19 = .ok (.getfield 26, 3) := dk_180 0 26 (dk_at dksX2_put_0 19 rfl rfl)
theorem dX2_put_22 : decode cX2_put 22 = .ok (.iload_n 3, 1) := dk_29 (dk_at dksX2_put_0 22 rfl rfl)
theorem dX2_put_23 : decode cX2_put 23 = .ok (.aload_n 0, 1) := dk_42 (dk_at dksX2_put_0 23 rfl rfl)
theorem dX2_put_24 : decode cX2_put 24 = .ok (.getfield 26, 3) := dk_180 0 26 (dk_at dksX2_put_1 0 rfl rfl)
theorem dX2_put_27 : decode cX2_put 27 = .ok (.iload_n 3, 1) := dk_29 (dk_at dksX2_put_1 3 rfl rfl)
theorem dX2_put_28 : decode cX2_put 28 = .ok (.iconst 1, 1) := dk_4 (dk_at dksX2_put_1 4 rfl rfl)
theorem dX2_put_29 : decode cX2_put 29 = .ok (.isub, 1) := dk_100 (dk_at dksX2_put_1 5 rfl rfl)
theorem dX2_put_30 : decode cX2_put 30 = .ok (.iaload, 1) := dk_46 (dk_at dksX2_put_1 6 rfl rfl)
theorem dX2_put_31 : decode cX2_put 31 = .ok (.iastore, 1) := dk_79 (dk_at dksX2_put_1 7 rfl rfl)
theorem dX2_put_32 : decode cX2_put 32 = .ok (.iinc 3 (-1), 3) := dk_132 3 255 (dk_at dksX2_put_1 8 rfl rfl)
theorem dX2_put_35 : decode cX2_put 35 = .ok (.goto (-33), 3) := dk_167 255 223 (dk_at dksX2_put_1 11 rfl rfl)
theorem dX2_put_38 : decode cX2_put 38 = .ok (.aload_n 0, 1) := dk_42 (dk_at dksX2_put_1 14 rfl rfl)
theorem dX2_put_39 : decode cX2_put 39 = .ok (.getfield 26, 3) := dk_180 0 26 (dk_at dksX2_put_1 15 rfl rfl)
theorem dX2_put_42 : decode cX2_put 42 = .ok (.iload_n 3, 1) := dk_29 (dk_at dksX2_put_1 18 rfl rfl)
theorem dX2_put_43 : decode cX2_put 43 = .ok (.iload_n 2, 1) := dk_28 (dk_at dksX2_put_1 19 rfl rfl)
theorem dX2_put_44 : decode cX2_put 44 = .ok (.iastore, 1) := dk_79 (dk_at dksX2_put_1 20 rfl rfl)
theorem dX2_put_45 : decode cX2_put 45 = .ok (.return_, 1) := dk_177 (dk_at dksX2_put_1 21 rfl rfl)
abbrev cX2_middle : ByteArray := prog_12_method_23_code
def yX2_middle : MethodName := ⟨RX2, "middle", "(II)I"⟩
def dkwX2_middle_2 : List UInt8 := [172]
abbrev dktX2_middle_2 : List UInt8 := dkwX2_middle_2 ++ []
def dkwX2_middle_1 : List UInt8 := [27, 4, 96, 46, 100, 46, 96, 62, 29, 155, 0, 9, 29, 5, 108, 167, 0, 9, 4, 29, 100, 5, 108, 116]
abbrev dktX2_middle_1 : List UInt8 := dkwX2_middle_1 ++ dktX2_middle_2
def dkwX2_middle_0 : List UInt8 := [42, 180, 0, 26, 42, 180, 0, 7, 27, 4, 96, 46, 46, 42, 180, 0, 26, 28, 4, 100, 42, 180, 0, 7]
abbrev dktX2_middle_0 : List UInt8 := dkwX2_middle_0 ++ dktX2_middle_1
theorem dksX2_middle_0 : cX2_middle.data.toList.drop 0 = dktX2_middle_0 := by decide +kernel
theorem dksX2_middle_1 : cX2_middle.data.toList.drop 24 = dktX2_middle_1 := dk_seg dksX2_middle_0 24 rfl rfl
theorem dksX2_middle_2 : cX2_middle.data.toList.drop 48 = dktX2_middle_2 := dk_seg dksX2_middle_1 24 rfl rfl
theorem dX2_middle_0 : decode cX2_middle 0 = .ok (.aload_n 0, 1) := dk_42 (dk_at dksX2_middle_0 0 rfl rfl)
theorem dX2_middle_1 : decode cX2_middle 1 = .ok (.getfield 26, 3) := dk_180 0 26 (dk_at dksX2_middle_0 1 rfl rfl)
theorem dX2_middle_4 : decode cX2_middle 4 = .ok (.aload_n 0, 1) := dk_42 (dk_at dksX2_middle_0 4 rfl rfl)
theorem dX2_middle_5 : decode cX2_middle 5 = .ok (.getfield 7, 3) := dk_180 0 7 (dk_at dksX2_middle_0 5 rfl rfl)
theorem dX2_middle_8 : decode cX2_middle 8 = .ok (.iload_n 1, 1) := dk_27 (dk_at dksX2_middle_0 8 rfl rfl)
theorem dX2_middle_9 : decode cX2_middle 9 = .ok (.iconst 1, 1) := dk_4 (dk_at dksX2_middle_0 9 rfl rfl)
theorem dX2_middle_10 : decode cX2_middle 10 = .ok (.iadd, 1) := dk_96 (dk_at dksX2_middle_0 10 rfl rfl)
theorem dX2_middle_11 : decode cX2_middle 11 = .ok (.iaload, 1) := dk_46 (dk_at dksX2_middle_0 11 rfl rfl)
theorem dX2_middle_12 : decode cX2_middle 12 = .ok (.iaload, 1) := dk_46 (dk_at dksX2_middle_0 12 rfl rfl)
theorem dX2_middle_13 : decode cX2_middle 13 = .ok (.aload_n 0, 1) := dk_42 (dk_at dksX2_middle_0 13 rfl rfl)
theorem dX2_middle_14 : decode cX2_middle 14 = .ok (.getfield 26, 3) := dk_180 0 26 (dk_at dksX2_middle_0 14 rfl rfl)
theorem dX2_middle_17 : decode cX2_middle 17 = .ok (.iload_n 2, 1) := dk_28 (dk_at dksX2_middle_0 17 rfl rfl)
theorem dX2_middle_18 : decode cX2_middle 18 = .ok (.iconst 1, 1) := dk_4 (dk_at dksX2_middle_0 18 rfl rfl)
theorem dX2_middle_19 : decode cX2_middle 19 = .ok (.isub, 1) := dk_100 (dk_at dksX2_middle_0 19 rfl rfl)
theorem dX2_middle_20 : decode cX2_middle 20 = .ok (.aload_n 0, 1) := dk_42 (dk_at dksX2_middle_0 20 rfl rfl)
theorem dX2_middle_21 : decode cX2_middle 21 = .ok (.getfield 7, 3) := dk_180 0 7 (dk_at dksX2_middle_0 21 rfl rfl)
theorem dX2_middle_24 : decode cX2_middle 24 = .ok (.iload_n 1, 1) := dk_27 (dk_at dksX2_middle_1 0 rfl rfl)
theorem dX2_middle_25 : decode cX2_middle 25 = .ok (.iconst 1, 1) := dk_4 (dk_at dksX2_middle_1 1 rfl rfl)
theorem dX2_middle_26 : decode cX2_middle 26 = .ok (.iadd, 1) := dk_96 (dk_at dksX2_middle_1 2 rfl rfl)
theorem dX2_middle_27 : decode cX2_middle 27 = .ok (.iaload, 1) := dk_46 (dk_at dksX2_middle_1 3 rfl rfl)
theorem dX2_middle_28 : decode cX2_middle 28 = .ok (.isub, 1) := dk_100 (dk_at dksX2_middle_1 4 rfl rfl)
theorem dX2_middle_29 : decode cX2_middle 29 = .ok (.iaload, 1) := dk_46 (dk_at dksX2_middle_1 5 rfl rfl)
theorem dX2_middle_30 : decode cX2_middle 30 = .ok (.iadd, 1) := dk_96 (dk_at dksX2_middle_1 6 rfl rfl)
theorem dX2_middle_31 : decode cX2_middle 31 = .ok (.istore_n 3, 1) := dk_62 (dk_at dksX2_middle_1 7 rfl rfl)
theorem dX2_middle_32 : decode cX2_middle 32 = .ok (.iload_n 3, 1) := dk_29 (dk_at dksX2_middle_1 8 rfl rfl)
theorem dX2_middle_33 : decode cX2_middle 33 = .ok (.ifCond .lt 9, 3) := dk_155 0 9 (dk_at dksX2_middle_1 9 rfl rfl)
theorem dX2_middle_36 : decode cX2_middle 36 = .ok (.iload_n 3, 1) := dk_29 (dk_at dksX2_middle_1 12 rfl rfl)
theorem dX2_middle_37 : decode cX2_middle 37 = .ok (.iconst 2, 1) := dk_5 (dk_at dksX2_middle_1 13 rfl rfl)
theorem dX2_middle_38 : decode cX2_middle 38 = .ok (.idiv, 1) := dk_108 (dk_at dksX2_middle_1 14 rfl rfl)
theorem dX2_middle_39 : decode cX2_middle 39 = .ok (.goto 9, 3) := dk_167 0 9 (dk_at dksX2_middle_1 15 rfl rfl)
theorem dX2_middle_42 : decode cX2_middle 42 = .ok (.iconst 1, 1) := dk_4 (dk_at dksX2_middle_1 18 rfl rfl)
theorem dX2_middle_43 : decode cX2_middle 43 = .ok (.iload_n 3, 1) := dk_29 (dk_at dksX2_middle_1 19 rfl rfl)
theorem dX2_middle_44 : decode cX2_middle 44 = .ok (.isub, 1) := dk_100 (dk_at dksX2_middle_1 20 rfl rfl)
theorem dX2_middle_45 : decode cX2_middle 45 = .ok (.iconst 2, 1) := dk_5 (dk_at dksX2_middle_1 21 rfl rfl)
theorem dX2_middle_46 : decode cX2_middle 46 = .ok (.idiv, 1) := dk_108 (dk_at dksX2_middle_1 22 rfl rfl)
theorem dX2_middle_47 : decode cX2_middle 47 = .ok (.ineg, 1) := dk_116 (dk_at dksX2_middle_1 23 rfl rfl)
theorem dX2_middle_48 : decode cX2_middle 48 = .ok (.ireturn, 1) := dk_172 (dk_at dksX2_middle_2 0 rfl rfl)
abbrev cX2_mayLie : ByteArray := prog_12_method_31_code
def yX2_mayLie : MethodName := ⟨RX2, "mayLie", "()I"⟩
def dkwX2_mayLie_3 : List UInt8 := [180, 0, 7, 4, 46, 172]
abbrev dktX2_mayLie_3 : List UInt8 := dkwX2_mayLie_3 ++ []
def dkwX2_mayLie_2 : List UInt8 := [154, 0, 7, 2, 167, 0, 23, 28, 42, 180, 0, 7, 4, 46, 162, 0, 7, 28, 167, 0, 9, 42]
abbrev dktX2_mayLie_2 : List UInt8 := dkwX2_mayLie_2 ++ dktX2_mayLie_3
def dkwX2_mayLie_1 : List UInt8 := [154, 0, 7, 4, 167, 0, 4, 3, 96, 60, 132, 2, 1, 167, 255, 223, 27, 4, 100, 6, 108, 61, 27]
abbrev dktX2_mayLie_1 : List UInt8 := dkwX2_mayLie_1 ++ dktX2_mayLie_2
def dkwX2_mayLie_0 : List UInt8 := [3, 60, 3, 61, 28, 42, 180, 0, 7, 3, 46, 162, 0, 29, 27, 42, 180, 0, 7, 16, 35, 28, 96, 46]
abbrev dktX2_mayLie_0 : List UInt8 := dkwX2_mayLie_0 ++ dktX2_mayLie_1
theorem dksX2_mayLie_0 : cX2_mayLie.data.toList.drop 0 = dktX2_mayLie_0 := by decide +kernel
theorem dksX2_mayLie_1 : cX2_mayLie.data.toList.drop 24 = dktX2_mayLie_1 := dk_seg dksX2_mayLie_0 24 rfl rfl
theorem dksX2_mayLie_2 : cX2_mayLie.data.toList.drop 47 = dktX2_mayLie_2 := dk_seg dksX2_mayLie_1 23 rfl rfl
theorem dksX2_mayLie_3 : cX2_mayLie.data.toList.drop 69 = dktX2_mayLie_3 := dk_seg dksX2_mayLie_2 22 rfl rfl
theorem dX2_mayLie_0 : decode cX2_mayLie 0 = .ok (.iconst 0, 1) := dk_3 (dk_at dksX2_mayLie_0 0 rfl rfl)
theorem dX2_mayLie_1 : decode cX2_mayLie 1 = .ok (.istore_n 1, 1) := dk_60 (dk_at dksX2_mayLie_0 1 rfl rfl)
theorem dX2_mayLie_2 : decode cX2_mayLie 2 = .ok (.iconst 0, 1) := dk_3 (dk_at dksX2_mayLie_0 2 rfl rfl)
theorem dX2_mayLie_3 : decode cX2_mayLie 3 = .ok (.istore_n 2, 1) := dk_61 (dk_at dksX2_mayLie_0 3 rfl rfl)
theorem dX2_mayLie_4 : decode cX2_mayLie 4 = .ok (.iload_n 2, 1) := dk_28 (dk_at dksX2_mayLie_0 4 rfl rfl)
theorem dX2_mayLie_5 : decode cX2_mayLie 5 = .ok (.aload_n 0, 1) := dk_42 (dk_at dksX2_mayLie_0 5 rfl rfl)
theorem dX2_mayLie_6 : decode cX2_mayLie 6 = .ok (.getfield 7, 3) := dk_180 0 7 (dk_at dksX2_mayLie_0 6 rfl rfl)
theorem dX2_mayLie_9 : decode cX2_mayLie 9 = .ok (.iconst 0, 1) := dk_3 (dk_at dksX2_mayLie_0 9 rfl rfl)
theorem dX2_mayLie_10 : decode cX2_mayLie 10 = .ok (.iaload, 1) := dk_46 (dk_at dksX2_mayLie_0 10 rfl rfl)
theorem dX2_mayLie_11 : decode cX2_mayLie 11 = .ok (.if_icmp .ge 29, 3) := dk_162 0 29 (dk_at dksX2_mayLie_0 11 rfl rfl)
theorem dX2_mayLie_14 : decode cX2_mayLie 14 = .ok (.iload_n 1, 1) := dk_27 (dk_at dksX2_mayLie_0 14 rfl rfl)
theorem dX2_mayLie_15 : decode cX2_mayLie 15 = .ok (.aload_n 0, 1) := dk_42 (dk_at dksX2_mayLie_0 15 rfl rfl)
theorem dX2_mayLie_16 : decode cX2_mayLie 16 = .ok (.getfield 7, 3) := dk_180 0 7 (dk_at dksX2_mayLie_0 16 rfl rfl)
theorem dX2_mayLie_19 : decode cX2_mayLie 19 = .ok (.bipush 35, 2) := dk_16 35 (dk_at dksX2_mayLie_0 19 rfl rfl)
theorem dX2_mayLie_21 : decode cX2_mayLie 21 = .ok (.iload_n 2, 1) := dk_28 (dk_at dksX2_mayLie_0 21 rfl rfl)
theorem dX2_mayLie_22 : decode cX2_mayLie 22 = .ok (.iadd, 1) := dk_96 (dk_at dksX2_mayLie_0 22 rfl rfl)
theorem dX2_mayLie_23 : decode cX2_mayLie 23 = .ok (.iaload, 1) := dk_46 (dk_at dksX2_mayLie_0 23 rfl rfl)
theorem dX2_mayLie_24 : decode cX2_mayLie 24 = .ok (.ifCond .ne 7, 3) := dk_154 0 7 (dk_at dksX2_mayLie_1 0 rfl rfl)
theorem dX2_mayLie_27 : decode cX2_mayLie 27 = .ok (.iconst 1, 1) := dk_4 (dk_at dksX2_mayLie_1 3 rfl rfl)
theorem dX2_mayLie_28 : decode cX2_mayLie 28 = .ok (.goto 4, 3) := dk_167 0 4 (dk_at dksX2_mayLie_1 4 rfl rfl)
theorem dX2_mayLie_31 : decode cX2_mayLie 31 = .ok (.iconst 0, 1) := dk_3 (dk_at dksX2_mayLie_1 7 rfl rfl)
theorem dX2_mayLie_32 : decode cX2_mayLie 32 = .ok (.iadd, 1) := dk_96 (dk_at dksX2_mayLie_1 8 rfl rfl)
theorem dX2_mayLie_33 : decode cX2_mayLie 33 = .ok (.istore_n 1, 1) := dk_60 (dk_at dksX2_mayLie_1 9 rfl rfl)
theorem dX2_mayLie_34 : decode cX2_mayLie 34 = .ok (.iinc 2 1, 3) := dk_132 2 1 (dk_at dksX2_mayLie_1 10 rfl rfl)
theorem dX2_mayLie_37 : decode cX2_mayLie 37 = .ok (.goto (-33), 3) := dk_167 255 223 (dk_at dksX2_mayLie_1 13 rfl rfl)
theorem dX2_mayLie_40 : decode cX2_mayLie 40 = .ok (.iload_n 1, 1) := dk_27 (dk_at dksX2_mayLie_1 16 rfl rfl)
theorem dX2_mayLie_41 : decode cX2_mayLie 41 = .ok (.iconst 1, 1) := dk_4 (dk_at dksX2_mayLie_1 17 rfl rfl)
theorem dX2_mayLie_42 : decode cX2_mayLie 42 = .ok (.isub, 1) := dk_100 (dk_at dksX2_mayLie_1 18 rfl rfl)
theorem dX2_mayLie_43 : decode cX2_mayLie 43 = .ok (.iconst 3, 1) := dk_6 (dk_at dksX2_mayLie_1 19 rfl rfl)
theorem dX2_mayLie_44 : decode cX2_mayLie 44 = .ok (.idiv, 1) := dk_108 (dk_at dksX2_mayLie_1 20 rfl rfl)
theorem dX2_mayLie_45 : decode cX2_mayLie 45 = .ok (.istore_n 2, 1) := dk_61 (dk_at dksX2_mayLie_1 21 rfl rfl)
theorem dX2_mayLie_46 : decode cX2_mayLie 46 = .ok (.iload_n 1, 1) := dk_27 (dk_at dksX2_mayLie_1 22 rfl rfl)
theorem dX2_mayLie_47 : decode cX2_mayLie 47 = .ok (.ifCond .ne 7, 3) := dk_154 0 7 (dk_at dksX2_mayLie_2 0 rfl rfl)
theorem dX2_mayLie_50 : decode cX2_mayLie 50 = .ok (.iconst (-1), 1) := dk_2 (dk_at dksX2_mayLie_2 3 rfl rfl)
theorem dX2_mayLie_51 : decode cX2_mayLie 51 = .ok (.goto 23, 3) := dk_167 0 23 (dk_at dksX2_mayLie_2 4 rfl rfl)
theorem dX2_mayLie_54 : decode cX2_mayLie 54 = .ok (.iload_n 2, 1) := dk_28 (dk_at dksX2_mayLie_2 7 rfl rfl)
theorem dX2_mayLie_55 : decode cX2_mayLie 55 = .ok (.aload_n 0, 1) := dk_42 (dk_at dksX2_mayLie_2 8 rfl rfl)
theorem dX2_mayLie_56 : decode cX2_mayLie 56 = .ok (.getfield 7, 3) := dk_180 0 7 (dk_at dksX2_mayLie_2 9 rfl rfl)
theorem dX2_mayLie_59 : decode cX2_mayLie 59 = .ok (.iconst 1, 1) := dk_4 (dk_at dksX2_mayLie_2 12 rfl rfl)
theorem dX2_mayLie_60 : decode cX2_mayLie 60 = .ok (.iaload, 1) := dk_46 (dk_at dksX2_mayLie_2 13 rfl rfl)
theorem dX2_mayLie_61 : decode cX2_mayLie 61 = .ok (.if_icmp .ge 7, 3) := dk_162 0 7 (dk_at dksX2_mayLie_2 14 rfl rfl)
theorem dX2_mayLie_64 : decode cX2_mayLie 64 = .ok (.iload_n 2, 1) := dk_28 (dk_at dksX2_mayLie_2 17 rfl rfl)
theorem dX2_mayLie_65 : decode cX2_mayLie 65 = .ok (.goto 9, 3) := dk_167 0 9 (dk_at dksX2_mayLie_2 18 rfl rfl)
theorem dX2_mayLie_68 : decode cX2_mayLie 68 = .ok (.aload_n 0, 1) := dk_42 (dk_at dksX2_mayLie_2 21 rfl rfl)
theorem dX2_mayLie_69 : decode cX2_mayLie 69 = .ok (.getfield 7, 3) := dk_180 0 7 (dk_at dksX2_mayLie_3 0 rfl rfl)
theorem dX2_mayLie_72 : decode cX2_mayLie 72 = .ok (.iconst 1, 1) := dk_4 (dk_at dksX2_mayLie_3 3 rfl rfl)
theorem dX2_mayLie_73 : decode cX2_mayLie 73 = .ok (.iaload, 1) := dk_46 (dk_at dksX2_mayLie_3 4 rfl rfl)
theorem dX2_mayLie_74 : decode cX2_mayLie 74 = .ok (.ireturn, 1) := dk_172 (dk_at dksX2_mayLie_3 5 rfl rfl)
abbrev cX2_rungSet : ByteArray := prog_12_method_35_code
def yX2_rungSet : MethodName := ⟨RX2, "rungSet", "()I"⟩
def dkwX2_rungSet_1 : List UInt8 := [28, 96, 46, 28, 120, 128, 60, 132, 2, 1, 167, 255, 226, 27, 172]
abbrev dktX2_rungSet_1 : List UInt8 := dkwX2_rungSet_1 ++ []
def dkwX2_rungSet_0 : List UInt8 := [3, 60, 3, 61, 28, 42, 180, 0, 7, 17, 0, 171, 46, 162, 0, 24, 27, 42, 180, 0, 7, 17, 0, 184]
abbrev dktX2_rungSet_0 : List UInt8 := dkwX2_rungSet_0 ++ dktX2_rungSet_1
theorem dksX2_rungSet_0 : cX2_rungSet.data.toList.drop 0 = dktX2_rungSet_0 := by decide +kernel
theorem dksX2_rungSet_1 : cX2_rungSet.data.toList.drop 24 = dktX2_rungSet_1 := dk_seg dksX2_rungSet_0 24 rfl rfl
theorem dX2_rungSet_0 : decode cX2_rungSet 0 = .ok (.iconst 0, 1) := dk_3 (dk_at dksX2_rungSet_0 0 rfl rfl)
theorem dX2_rungSet_1 : decode cX2_rungSet 1 = .ok (.istore_n 1, 1) := dk_60 (dk_at dksX2_rungSet_0 1 rfl rfl)
theorem dX2_rungSet_2 : decode cX2_rungSet 2 = .ok (.iconst 0, 1) := dk_3 (dk_at dksX2_rungSet_0 2 rfl rfl)
theorem dX2_rungSet_3 : decode cX2_rungSet 3 = .ok (.istore_n 2, 1) := dk_61 (dk_at dksX2_rungSet_0 3 rfl rfl)
theorem dX2_rungSet_4 : decode cX2_rungSet 4 = .ok (.iload_n 2, 1) := dk_28 (dk_at dksX2_rungSet_0 4 rfl rfl)
theorem dX2_rungSet_5 : decode cX2_rungSet 5 = .ok (.aload_n 0, 1) := dk_42 (dk_at dksX2_rungSet_0 5 rfl rfl)
theorem dX2_rungSet_6 : decode cX2_rungSet 6 = .ok (.getfield 7, 3) := dk_180 0 7 (dk_at dksX2_rungSet_0 6 rfl rfl)
theorem dX2_rungSet_9 : decode cX2_rungSet 9 = .ok (.sipush 171, 3) := dk_17 0 171 (dk_at dksX2_rungSet_0 9 rfl rfl)
theorem dX2_rungSet_12 : decode cX2_rungSet 12 = .ok (.iaload, 1) := dk_46 (dk_at dksX2_rungSet_0 12 rfl rfl)
theorem dX2_rungSet_13 : decode cX2_rungSet 13 = .ok (.if_icmp .ge 24, 3) := dk_162 0 24 (dk_at dksX2_rungSet_0 13 rfl rfl)
theorem dX2_rungSet_16 : decode cX2_rungSet 16 = .ok (.iload_n 1, 1) := dk_27 (dk_at dksX2_rungSet_0 16 rfl rfl)
theorem dX2_rungSet_17 : decode cX2_rungSet 17 = .ok (.aload_n 0, 1) := dk_42 (dk_at dksX2_rungSet_0 17 rfl rfl)
theorem dX2_rungSet_18 : decode cX2_rungSet 18 = .ok (.getfield 7, 3) := dk_180 0 7 (dk_at dksX2_rungSet_0 18 rfl rfl)
theorem dX2_rungSet_21 : decode cX2_rungSet 21 = .ok (.sipush 184, 3) := dk_17 0 184 (dk_at dksX2_rungSet_0 21 rfl rfl)
theorem dX2_rungSet_24 : decode cX2_rungSet 24 = .ok (.iload_n 2, 1) := dk_28 (dk_at dksX2_rungSet_1 0 rfl rfl)
theorem dX2_rungSet_25 : decode cX2_rungSet 25 = .ok (.iadd, 1) := dk_96 (dk_at dksX2_rungSet_1 1 rfl rfl)
theorem dX2_rungSet_26 : decode cX2_rungSet 26 = .ok (.iaload, 1) := dk_46 (dk_at dksX2_rungSet_1 2 rfl rfl)
theorem dX2_rungSet_27 : decode cX2_rungSet 27 = .ok (.iload_n 2, 1) := dk_28 (dk_at dksX2_rungSet_1 3 rfl rfl)
theorem dX2_rungSet_28 : decode cX2_rungSet 28 = .ok (.ishl, 1) := dk_120 (dk_at dksX2_rungSet_1 4 rfl rfl)
theorem dX2_rungSet_29 : decode cX2_rungSet 29 = .ok (.ior, 1) := dk_128 (dk_at dksX2_rungSet_1 5 rfl rfl)
theorem dX2_rungSet_30 : decode cX2_rungSet 30 = .ok (.istore_n 1, 1) := dk_60 (dk_at dksX2_rungSet_1 6 rfl rfl)
theorem dX2_rungSet_31 : decode cX2_rungSet 31 = .ok (.iinc 2 1, 3) := dk_132 2 1 (dk_at dksX2_rungSet_1 7 rfl rfl)
theorem dX2_rungSet_34 : decode cX2_rungSet 34 = .ok (.goto (-30), 3) := dk_167 255 226 (dk_at dksX2_rungSet_1 10 rfl rfl)
theorem dX2_rungSet_37 : decode cX2_rungSet 37 = .ok (.iload_n 1, 1) := dk_27 (dk_at dksX2_rungSet_1 13 rfl rfl)
theorem dX2_rungSet_38 : decode cX2_rungSet 38 = .ok (.ireturn, 1) := dk_172 (dk_at dksX2_rungSet_1 14 rfl rfl)
abbrev cX2_wrongEntry : ByteArray := prog_12_method_36_code
def yX2_wrongEntry : MethodName := ⟨RX2, "wrongEntry", "()I"⟩
def dkwX2_wrongEntry_2 : List UInt8 := [167, 255, 210, 2, 172]
abbrev dktX2_wrongEntry_2 : List UInt8 := dkwX2_wrongEntry_2 ++ []
def dkwX2_wrongEntry_1 : List UInt8 := [3, 42, 180, 0, 20, 27, 46, 182, 0, 97, 42, 180, 0, 23, 27, 46, 159, 0, 5, 27, 172, 132, 1, 1]
abbrev dktX2_wrongEntry_1 : List UInt8 := dkwX2_wrongEntry_1 ++ dktX2_wrongEntry_2
def dkwX2_wrongEntry_0 : List UInt8 := [3, 60, 27, 42, 180, 0, 94, 162, 0, 44, 42, 42, 180, 0, 20, 27, 46, 182, 0, 136, 153, 0, 23, 42]
abbrev dktX2_wrongEntry_0 : List UInt8 := dkwX2_wrongEntry_0 ++ dktX2_wrongEntry_1
theorem dksX2_wrongEntry_0 : cX2_wrongEntry.data.toList.drop 0 = dktX2_wrongEntry_0 := by decide +kernel
theorem dksX2_wrongEntry_1 : cX2_wrongEntry.data.toList.drop 24 = dktX2_wrongEntry_1 := dk_seg dksX2_wrongEntry_0 24 rfl rfl
theorem dksX2_wrongEntry_2 : cX2_wrongEntry.data.toList.drop 48 = dktX2_wrongEntry_2 := dk_seg dksX2_wrongEntry_1 24 rfl rfl
theorem dX2_wrongEntry_0 : decode cX2_wrongEntry 0 = .ok (.iconst 0, 1) := dk_3 (dk_at dksX2_wrongEntry_0 0 rfl rfl)
theorem dX2_wrongEntry_1 : decode cX2_wrongEntry 1 = .ok (.istore_n 1, 1) := dk_60 (dk_at dksX2_wrongEntry_0 1 rfl rfl)
theorem dX2_wrongEntry_2 : decode cX2_wrongEntry 2 = .ok (.iload_n 1, 1) := dk_27 (dk_at dksX2_wrongEntry_0 2 rfl rfl)
theorem dX2_wrongEntry_3 : decode cX2_wrongEntry 3 = .ok (.aload_n 0, 1) := dk_42 (dk_at dksX2_wrongEntry_0 3 rfl rfl)
theorem dX2_wrongEntry_4 : decode cX2_wrongEntry 4 = .ok (.getfield 94, 3) := dk_180 0 94 (dk_at dksX2_wrongEntry_0 4 rfl rfl)
theorem dX2_wrongEntry_7 : decode cX2_wrongEntry 7 = .ok (.if_icmp .ge 44, 3) := dk_162 0 44 (dk_at dksX2_wrongEntry_0 7 rfl rfl)
theorem dX2_wrongEntry_10 : decode cX2_wrongEntry 10 = .ok (.aload_n 0, 1) := dk_42 (dk_at dksX2_wrongEntry_0 10 rfl rfl)
theorem dX2_wrongEntry_11 : decode cX2_wrongEntry 11 = .ok (.aload_n 0, 1) := dk_42 (dk_at dksX2_wrongEntry_0 11 rfl rfl)
theorem dX2_wrongEntry_12 : decode cX2_wrongEntry 12 = .ok (.getfield 20, 3) := dk_180 0 20 (dk_at dksX2_wrongEntry_0 12 rfl rfl)
theorem dX2_wrongEntry_15 : decode cX2_wrongEntry 15 = .ok (.iload_n 1, 1) := dk_27 (dk_at dksX2_wrongEntry_0 15 rfl rfl)
theorem dX2_wrongEntry_16 : decode cX2_wrongEntry 16 = .ok (.iaload, 1) := dk_46 (dk_at dksX2_wrongEntry_0 16 rfl rfl)
theorem dX2_wrongEntry_17 : decode cX2_wrongEntry 17 = .ok (.invokevirtual 136, 3) := dk_182 0 136 (dk_at dksX2_wrongEntry_0 17 rfl rfl)
theorem dX2_wrongEntry_20 : decode cX2_wrongEntry 20 = .ok (.ifCond .eq 23, 3) := dk_153 0 23 (dk_at dksX2_wrongEntry_0 20 rfl rfl)
theorem dX2_wrongEntry_23 : decode cX2_wrongEntry 23 = .ok (.aload_n 0, 1) := dk_42 (dk_at dksX2_wrongEntry_0 23 rfl rfl)
theorem dX2_wrongEntry_24 : decode cX2_wrongEntry 24 = .ok (.iconst 0, 1) := dk_3 (dk_at dksX2_wrongEntry_1 0 rfl rfl)
theorem dX2_wrongEntry_25 : decode cX2_wrongEntry 25 = .ok (.aload_n 0, 1) := dk_42 (dk_at dksX2_wrongEntry_1 1 rfl rfl)
theorem dX2_wrongEntry_26 : decode cX2_wrongEntry 26 = .ok (.getfield 20, 3) := dk_180 0 20 (dk_at dksX2_wrongEntry_1 2 rfl rfl)
theorem dX2_wrongEntry_29 : decode cX2_wrongEntry 29 = .ok (.iload_n 1, 1) := dk_27 (dk_at dksX2_wrongEntry_1 5 rfl rfl)
theorem dX2_wrongEntry_30 : decode cX2_wrongEntry 30 = .ok (.iaload, 1) := dk_46 (dk_at dksX2_wrongEntry_1 6 rfl rfl)
theorem dX2_wrongEntry_31 : decode cX2_wrongEntry 31 = .ok (.invokevirtual 97, 3) := dk_182 0 97 (dk_at dksX2_wrongEntry_1 7 rfl rfl)
theorem dX2_wrongEntry_34 : decode cX2_wrongEntry 34 = .ok (.aload_n 0, 1) := dk_42 (dk_at dksX2_wrongEntry_1 10 rfl rfl)
theorem dX2_wrongEntry_35 : decode cX2_wrongEntry 35 = .ok (.getfield 23, 3) := dk_180 0 23 (dk_at dksX2_wrongEntry_1 11 rfl rfl)
theorem dX2_wrongEntry_38 : decode cX2_wrongEntry 38 = .ok (.iload_n 1, 1) := dk_27 (dk_at dksX2_wrongEntry_1 14 rfl rfl)
theorem dX2_wrongEntry_39 : decode cX2_wrongEntry 39 = .ok (.iaload, 1) := dk_46 (dk_at dksX2_wrongEntry_1 15 rfl rfl)
theorem dX2_wrongEntry_40 : decode cX2_wrongEntry 40 = .ok (.if_icmp .eq 5, 3) := dk_159 0 5 (dk_at dksX2_wrongEntry_1 16 rfl rfl)
theorem dX2_wrongEntry_43 : decode cX2_wrongEntry 43 = .ok (.iload_n 1, 1) := dk_27 (dk_at dksX2_wrongEntry_1 19 rfl rfl)
theorem dX2_wrongEntry_44 : decode cX2_wrongEntry 44 = .ok (.ireturn, 1) := dk_172 (dk_at dksX2_wrongEntry_1 20 rfl rfl)
theorem dX2_wrongEntry_45 : decode cX2_wrongEntry 45 = .ok (.iinc 1 1, 3) := dk_132 1 1 (dk_at dksX2_wrongEntry_1 21 rfl rfl)
theorem dX2_wrongEntry_48 : decode cX2_wrongEntry 48 = .ok (.goto (-46), 3) := dk_167 255 210 (dk_at dksX2_wrongEntry_2 0 rfl rfl)
theorem dX2_wrongEntry_51 : decode cX2_wrongEntry 51 = .ok (.iconst (-1), 1) := dk_2 (dk_at dksX2_wrongEntry_2 3 rfl rfl)
theorem dX2_wrongEntry_52 : decode cX2_wrongEntry 52 = .ok (.ireturn, 1) := dk_172 (dk_at dksX2_wrongEntry_2 4 rfl rfl)
abbrev cX2_isClock : ByteArray := prog_12_method_6_code
def yX2_isClock : MethodName := ⟨RX2, "isClock", "(I)Z"⟩
def dkwX2_isClock_0 : List UInt8 := [27, 3, 42, 180, 0, 7, 3, 46, 4, 100, 184, 0, 32, 172]
abbrev dktX2_isClock_0 : List UInt8 := dkwX2_isClock_0 ++ []
theorem dksX2_isClock_0 : cX2_isClock.data.toList.drop 0 = dktX2_isClock_0 := by decide +kernel
theorem dX2_isClock_0 : decode cX2_isClock 0 = .ok (.iload_n 1, 1) := dk_27 (dk_at dksX2_isClock_0 0 rfl rfl)
theorem dX2_isClock_1 : decode cX2_isClock 1 = .ok (.iconst 0, 1) := dk_3 (dk_at dksX2_isClock_0 1 rfl rfl)
theorem dX2_isClock_2 : decode cX2_isClock 2 = .ok (.aload_n 0, 1) := dk_42 (dk_at dksX2_isClock_0 2 rfl rfl)
theorem dX2_isClock_3 : decode cX2_isClock 3 = .ok (.getfield 7, 3) := dk_180 0 7 (dk_at dksX2_isClock_0 3 rfl rfl)
theorem dX2_isClock_6 : decode cX2_isClock 6 = .ok (.iconst 0, 1) := dk_3 (dk_at dksX2_isClock_0 6 rfl rfl)
theorem dX2_isClock_7 : decode cX2_isClock 7 = .ok (.iaload, 1) := dk_46 (dk_at dksX2_isClock_0 7 rfl rfl)
theorem dX2_isClock_8 : decode cX2_isClock 8 = .ok (.iconst 1, 1) := dk_4 (dk_at dksX2_isClock_0 8 rfl rfl)
theorem dX2_isClock_9 : decode cX2_isClock 9 = .ok (.isub, 1) := dk_100 (dk_at dksX2_isClock_0 9 rfl rfl)
theorem dX2_isClock_10 : decode cX2_isClock 10 = .ok (.invokestatic 32, 3) := dk_184 0 32 (dk_at dksX2_isClock_0 10 rfl rfl)
theorem dX2_isClock_13 : decode cX2_isClock 13 = .ok (.ireturn, 1) := dk_172 (dk_at dksX2_isClock_0 13 rfl rfl)
abbrev cX2_clock : ByteArray := prog_12_method_38_code
def yX2_clock : MethodName := ⟨RX2, "clock", "(II)I"⟩
def dkwX2_clock_6 : List UInt8 := [182, 0, 117, 18, 156, 96, 172, 18, 36, 172]
abbrev dktX2_clock_6 : List UInt8 := dkwX2_clock_6 ++ []
def dkwX2_clock_5 : List UInt8 := [153, 0, 17, 42, 3, 42, 180, 0, 7, 3, 46, 182, 0, 100, 153, 0, 7, 2, 167, 0, 12, 42, 3, 27]
abbrev dktX2_clock_5 : List UInt8 := dkwX2_clock_5 ++ dktX2_clock_6
def dkwX2_clock_4 : List UInt8 := [16, 27, 27, 96, 46, 172, 42, 180, 0, 7, 16, 35, 27, 96, 46, 172, 42, 3, 27, 182, 0, 114]
abbrev dktX2_clock_4 : List UInt8 := dkwX2_clock_4 ++ dktX2_clock_5
def dkwX2_clock_3 : List UInt8 := [16, 19, 27, 96, 46, 18, 156, 96, 172, 42, 3, 27, 182, 0, 97, 18, 156, 96, 172, 42, 180, 0, 7]
abbrev dktX2_clock_3 : List UInt8 := dkwX2_clock_3 ++ dktX2_clock_4
def dkwX2_clock_2 : List UInt8 := [42, 180, 0, 7, 6, 27, 96, 46, 172, 42, 180, 0, 7, 16, 11, 27, 96, 46, 172, 42, 180, 0, 7]
abbrev dktX2_clock_2 : List UInt8 := dkwX2_clock_2 ++ dktX2_clock_3
def dkwX2_clock_1 : List UInt8 := [170, 0, 0, 0, 0, 0, 0, 143, 0, 0, 0, 0, 0, 0, 0, 6, 0, 0, 0, 44, 0, 0, 0, 53, 0, 0, 0, 63, 0, 0, 0, 76, 0, 0, 0, 86, 0, 0, 0, 96, 0, 0, 0, 106]
abbrev dktX2_clock_1 : List UInt8 := dkwX2_clock_1 ++ dktX2_clock_2
def dkwX2_clock_0 : List UInt8 := [42, 27, 182, 0, 136, 154, 0, 6, 18, 155, 172, 28]
abbrev dktX2_clock_0 : List UInt8 := dkwX2_clock_0 ++ dktX2_clock_1
theorem dksX2_clock_0 : cX2_clock.data.toList.drop 0 = dktX2_clock_0 := by decide +kernel
theorem dksX2_clock_1 : cX2_clock.data.toList.drop 12 = dktX2_clock_1 := dk_seg dksX2_clock_0 12 rfl rfl
theorem dksX2_clock_2 : cX2_clock.data.toList.drop 56 = dktX2_clock_2 := dk_seg dksX2_clock_1 44 rfl rfl
theorem dksX2_clock_3 : cX2_clock.data.toList.drop 79 = dktX2_clock_3 := dk_seg dksX2_clock_2 23 rfl rfl
theorem dksX2_clock_4 : cX2_clock.data.toList.drop 102 = dktX2_clock_4 := dk_seg dksX2_clock_3 23 rfl rfl
theorem dksX2_clock_5 : cX2_clock.data.toList.drop 124 = dktX2_clock_5 := dk_seg dksX2_clock_4 22 rfl rfl
theorem dksX2_clock_6 : cX2_clock.data.toList.drop 148 = dktX2_clock_6 := dk_seg dksX2_clock_5 24 rfl rfl
theorem dX2_clock_0 : decode cX2_clock 0 = .ok (.aload_n 0, 1) := dk_42 (dk_at dksX2_clock_0 0 rfl rfl)
theorem dX2_clock_1 : decode cX2_clock 1 = .ok (.iload_n 1, 1) := dk_27 (dk_at dksX2_clock_0 1 rfl rfl)
theorem dX2_clock_2 : decode cX2_clock 2 = .ok (.invokevirtual 136, 3) := dk_182 0 136 (dk_at dksX2_clock_0 2 rfl rfl)
theorem dX2_clock_5 : decode cX2_clock 5 = .ok (.ifCond .ne 6, 3) := dk_154 0 6 (dk_at dksX2_clock_0 5 rfl rfl)
theorem dX2_clock_8 : decode cX2_clock 8 = .ok (.ldc 155, 2) := dk_18 155 (dk_at dksX2_clock_0 8 rfl rfl)
theorem dX2_clock_10 : decode cX2_clock 10 = .ok (.ireturn, 1) := dk_172 (dk_at dksX2_clock_0 10 rfl rfl)
theorem dX2_clock_11 : decode cX2_clock 11 = .ok (.iload_n 2, 1) := dk_28 (dk_at dksX2_clock_0 11 rfl rfl)
theorem dX2_clock_12 : decode cX2_clock 12 = .ok (.tableswitch 143 0 6 #[44, 53, 63, 76, 86, 96, 106], 44) := by decide +kernel
theorem dX2_clock_56 : decode cX2_clock 56 = .ok (.aload_n 0, 1) := dk_42 (dk_at dksX2_clock_2 0 rfl rfl)
theorem dX2_clock_57 : decode cX2_clock 57 = .ok (.getfield 7, 3) := dk_180 0 7 (dk_at dksX2_clock_2 1 rfl rfl)
theorem dX2_clock_60 : decode cX2_clock 60 = .ok (.iconst 3, 1) := dk_6 (dk_at dksX2_clock_2 4 rfl rfl)
theorem dX2_clock_61 : decode cX2_clock 61 = .ok (.iload_n 1, 1) := dk_27 (dk_at dksX2_clock_2 5 rfl rfl)
theorem dX2_clock_62 : decode cX2_clock 62 = .ok (.iadd, 1) := dk_96 (dk_at dksX2_clock_2 6 rfl rfl)
theorem dX2_clock_63 : decode cX2_clock 63 = .ok (.iaload, 1) := dk_46 (dk_at dksX2_clock_2 7 rfl rfl)
theorem dX2_clock_64 : decode cX2_clock 64 = .ok (.ireturn, 1) := dk_172 (dk_at dksX2_clock_2 8 rfl rfl)
theorem dX2_clock_65 : decode cX2_clock 65 = .ok (.aload_n 0, 1) := dk_42 (dk_at dksX2_clock_2 9 rfl rfl)
theorem dX2_clock_66 : decode cX2_clock 66 = .ok (.getfield 7, 3) := dk_180 0 7 (dk_at dksX2_clock_2 10 rfl rfl)
theorem dX2_clock_69 : decode cX2_clock 69 = .ok (.bipush 11, 2) := dk_16 11 (dk_at dksX2_clock_2 13 rfl rfl)
theorem dX2_clock_71 : decode cX2_clock 71 = .ok (.iload_n 1, 1) := dk_27 (dk_at dksX2_clock_2 15 rfl rfl)
theorem dX2_clock_72 : decode cX2_clock 72 = .ok (.iadd, 1) := dk_96 (dk_at dksX2_clock_2 16 rfl rfl)
theorem dX2_clock_73 : decode cX2_clock 73 = .ok (.iaload, 1) := dk_46 (dk_at dksX2_clock_2 17 rfl rfl)
theorem dX2_clock_74 : decode cX2_clock 74 = .ok (.ireturn, 1) := dk_172 (dk_at dksX2_clock_2 18 rfl rfl)
theorem dX2_clock_75 : decode cX2_clock 75 = .ok (.aload_n 0, 1) := dk_42 (dk_at dksX2_clock_2 19 rfl rfl)
theorem dX2_clock_76 : decode cX2_clock 76 = .ok (.getfield 7, 3) := dk_180 0 7 (dk_at dksX2_clock_2 20 rfl rfl)
theorem dX2_clock_79 : decode cX2_clock 79 = .ok (.bipush 19, 2) := dk_16 19 (dk_at dksX2_clock_3 0 rfl rfl)
theorem dX2_clock_81 : decode cX2_clock 81 = .ok (.iload_n 1, 1) := dk_27 (dk_at dksX2_clock_3 2 rfl rfl)
theorem dX2_clock_82 : decode cX2_clock 82 = .ok (.iadd, 1) := dk_96 (dk_at dksX2_clock_3 3 rfl rfl)
theorem dX2_clock_83 : decode cX2_clock 83 = .ok (.iaload, 1) := dk_46 (dk_at dksX2_clock_3 4 rfl rfl)
theorem dX2_clock_84 : decode cX2_clock 84 = .ok (.ldc 156, 2) := dk_18 156 (dk_at dksX2_clock_3 5 rfl rfl)
theorem dX2_clock_86 : decode cX2_clock 86 = .ok (.iadd, 1) := dk_96 (dk_at dksX2_clock_3 7 rfl rfl)
theorem dX2_clock_87 : decode cX2_clock 87 = .ok (.ireturn, 1) := dk_172 (dk_at dksX2_clock_3 8 rfl rfl)
theorem dX2_clock_88 : decode cX2_clock 88 = .ok (.aload_n 0, 1) := dk_42 (dk_at dksX2_clock_3 9 rfl rfl)
theorem dX2_clock_89 : decode cX2_clock 89 = .ok (.iconst 0, 1) := dk_3 (dk_at dksX2_clock_3 10 rfl rfl)
theorem dX2_clock_90 : decode cX2_clock 90 = .ok (.iload_n 1, 1) := dk_27 (dk_at dksX2_clock_3 11 rfl rfl)
theorem dX2_clock_91 : decode cX2_clock 91 = .ok (.invokevirtual 97, 3) := dk_182 0 97 (dk_at dksX2_clock_3 12 rfl rfl)
theorem dX2_clock_94 : decode cX2_clock 94 = .ok (.ldc 156, 2) := dk_18 156 (dk_at dksX2_clock_3 15 rfl rfl)
theorem dX2_clock_96 : decode cX2_clock 96 = .ok (.iadd, 1) := dk_96 (dk_at dksX2_clock_3 17 rfl rfl)
theorem dX2_clock_97 : decode cX2_clock 97 = .ok (.ireturn, 1) := dk_172 (dk_at dksX2_clock_3 18 rfl rfl)
theorem dX2_clock_98 : decode cX2_clock 98 = .ok (.aload_n 0, 1) := dk_42 (dk_at dksX2_clock_3 19 rfl rfl)
theorem dX2_clock_99 : decode cX2_clock 99 = .ok (.getfield 7, 3) := dk_180 0 7 (dk_at dksX2_clock_3 20 rfl rfl)
theorem dX2_clock_102 : decode cX2_clock 102 = .ok (.bipush 27, 2) := dk_16 27 (dk_at dksX2_clock_4 0 rfl rfl)
theorem dX2_clock_104 : decode cX2_clock 104 = .ok (.iload_n 1, 1) := dk_27 (dk_at dksX2_clock_4 2 rfl rfl)
theorem dX2_clock_105 : decode cX2_clock 105 = .ok (.iadd, 1) := dk_96 (dk_at dksX2_clock_4 3 rfl rfl)
theorem dX2_clock_106 : decode cX2_clock 106 = .ok (.iaload, 1) := dk_46 (dk_at dksX2_clock_4 4 rfl rfl)
theorem dX2_clock_107 : decode cX2_clock 107 = .ok (.ireturn, 1) := dk_172 (dk_at dksX2_clock_4 5 rfl rfl)
theorem dX2_clock_108 : decode cX2_clock 108 = .ok (.aload_n 0, 1) := dk_42 (dk_at dksX2_clock_4 6 rfl rfl)
theorem dX2_clock_109 : decode cX2_clock 109 = .ok (.getfield 7, 3) := dk_180 0 7 (dk_at dksX2_clock_4 7 rfl rfl)
theorem dX2_clock_112 : decode cX2_clock 112 = .ok (.bipush 35, 2) := dk_16 35 (dk_at dksX2_clock_4 10 rfl rfl)
theorem dX2_clock_114 : decode cX2_clock 114 = .ok (.iload_n 1, 1) := dk_27 (dk_at dksX2_clock_4 12 rfl rfl)
theorem dX2_clock_115 : decode cX2_clock 115 = .ok (.iadd, 1) := dk_96 (dk_at dksX2_clock_4 13 rfl rfl)
theorem dX2_clock_116 : decode cX2_clock 116 = .ok (.iaload, 1) := dk_46 (dk_at dksX2_clock_4 14 rfl rfl)
theorem dX2_clock_117 : decode cX2_clock 117 = .ok (.ireturn, 1) := dk_172 (dk_at dksX2_clock_4 15 rfl rfl)
theorem dX2_clock_118 : decode cX2_clock 118 = .ok (.aload_n 0, 1) := dk_42 (dk_at dksX2_clock_4 16 rfl rfl)
theorem dX2_clock_119 : decode cX2_clock 119 = .ok (.iconst 0, 1) := dk_3 (dk_at dksX2_clock_4 17 rfl rfl)
theorem dX2_clock_120 : decode cX2_clock 120 = .ok (.iload_n 1, 1) := dk_27 (dk_at dksX2_clock_4 18 rfl rfl)
theorem dX2_clock_121 : decode cX2_clock 121 = .ok (.invokevirtual 114, 3) := dk_182 0 114 (dk_at dksX2_clock_4 19 rfl rfl)
theorem dX2_clock_124 : decode cX2_clock 124 = .ok (.ifCond .eq 17, 3) := dk_153 0 17 (dk_at dksX2_clock_5 0 rfl rfl)
theorem dX2_clock_127 : decode cX2_clock 127 = .ok (.aload_n 0, 1) := dk_42 (dk_at dksX2_clock_5 3 rfl rfl)
theorem dX2_clock_128 : decode cX2_clock 128 = .ok (.iconst 0, 1) := dk_3 (dk_at dksX2_clock_5 4 rfl rfl)
theorem dX2_clock_129 : decode cX2_clock 129 = .ok (.aload_n 0, 1) := dk_42 (dk_at dksX2_clock_5 5 rfl rfl)
theorem dX2_clock_130 : decode cX2_clock 130 = .ok (.getfield 7, 3) := dk_180 0 7 (dk_at dksX2_clock_5 6 rfl rfl)
theorem dX2_clock_133 : decode cX2_clock 133 = .ok (.iconst 0, 1) := dk_3 (dk_at dksX2_clock_5 9 rfl rfl)
theorem dX2_clock_134 : decode cX2_clock 134 = .ok (.iaload, 1) := dk_46 (dk_at dksX2_clock_5 10 rfl rfl)
theorem dX2_clock_135 : decode cX2_clock 135 = .ok (.invokevirtual 100, 3) := dk_182 0 100 (dk_at dksX2_clock_5 11 rfl rfl)
theorem dX2_clock_138 : decode cX2_clock 138 = .ok (.ifCond .eq 7, 3) := dk_153 0 7 (dk_at dksX2_clock_5 14 rfl rfl)
theorem dX2_clock_141 : decode cX2_clock 141 = .ok (.iconst (-1), 1) := dk_2 (dk_at dksX2_clock_5 17 rfl rfl)
theorem dX2_clock_142 : decode cX2_clock 142 = .ok (.goto 12, 3) := dk_167 0 12 (dk_at dksX2_clock_5 18 rfl rfl)
theorem dX2_clock_145 : decode cX2_clock 145 = .ok (.aload_n 0, 1) := dk_42 (dk_at dksX2_clock_5 21 rfl rfl)
theorem dX2_clock_146 : decode cX2_clock 146 = .ok (.iconst 0, 1) := dk_3 (dk_at dksX2_clock_5 22 rfl rfl)
theorem dX2_clock_147 : decode cX2_clock 147 = .ok (.iload_n 1, 1) := dk_27 (dk_at dksX2_clock_5 23 rfl rfl)
theorem dX2_clock_148 : decode cX2_clock 148 = .ok (.invokevirtual 117, 3) := dk_182 0 117 (dk_at dksX2_clock_6 0 rfl rfl)
theorem dX2_clock_151 : decode cX2_clock 151 = .ok (.ldc 156, 2) := dk_18 156 (dk_at dksX2_clock_6 3 rfl rfl)
theorem dX2_clock_153 : decode cX2_clock 153 = .ok (.iadd, 1) := dk_96 (dk_at dksX2_clock_6 5 rfl rfl)
theorem dX2_clock_154 : decode cX2_clock 154 = .ok (.ireturn, 1) := dk_172 (dk_at dksX2_clock_6 6 rfl rfl)
theorem dX2_clock_155 : decode cX2_clock 155 = .ok (.ldc 36, 2) := dk_18 36 (dk_at dksX2_clock_6 7 rfl rfl)
theorem dX2_clock_157 : decode cX2_clock 157 = .ok (.ireturn, 1) := dk_172 (dk_at dksX2_clock_6 9 rfl rfl)
abbrev cX2_middleOf : ByteArray := prog_12_method_24_code
def yX2_middleOf : MethodName := ⟨RX2, "middleOf", "(II)I"⟩
def dkwX2_middleOf_2 : List UInt8 := [167, 255, 231, 42, 27, 42, 180, 0, 7, 27, 46, 182, 0, 111, 172]
abbrev dktX2_middleOf_2 : List UInt8 := dkwX2_middleOf_2 ++ []
def dkwX2_middleOf_1 : List UInt8 := [42, 180, 0, 7, 27, 46, 162, 0, 21, 42, 29, 42, 27, 29, 28, 182, 0, 104, 182, 0, 108, 132, 3, 1]
abbrev dktX2_middleOf_1 : List UInt8 := dkwX2_middleOf_1 ++ dktX2_middleOf_2
def dkwX2_middleOf_0 : List UInt8 := [42, 27, 42, 180, 0, 7, 27, 46, 182, 0, 100, 153, 0, 10, 42, 27, 28, 182, 0, 97, 172, 3, 62, 29]
abbrev dktX2_middleOf_0 : List UInt8 := dkwX2_middleOf_0 ++ dktX2_middleOf_1
theorem dksX2_middleOf_0 : cX2_middleOf.data.toList.drop 0 = dktX2_middleOf_0 := by decide +kernel
theorem dksX2_middleOf_1 : cX2_middleOf.data.toList.drop 24 = dktX2_middleOf_1 := dk_seg dksX2_middleOf_0 24 rfl rfl
theorem dksX2_middleOf_2 : cX2_middleOf.data.toList.drop 48 = dktX2_middleOf_2 := dk_seg dksX2_middleOf_1 24 rfl rfl
theorem dX2_middleOf_0 : decode cX2_middleOf 0 = .ok (.aload_n 0, 1) := dk_42 (dk_at dksX2_middleOf_0 0 rfl rfl)
theorem dX2_middleOf_1 : decode cX2_middleOf 1 = .ok (.iload_n 1, 1) := dk_27 (dk_at dksX2_middleOf_0 1 rfl rfl)
theorem dX2_middleOf_2 : decode cX2_middleOf 2 = .ok (.aload_n 0, 1) := dk_42 (dk_at dksX2_middleOf_0 2 rfl rfl)
theorem dX2_middleOf_3 : decode cX2_middleOf 3 = .ok (.getfield 7, 3) := dk_180 0 7 (dk_at dksX2_middleOf_0 3 rfl rfl)
theorem dX2_middleOf_6 : decode cX2_middleOf 6 = .ok (.iload_n 1, 1) := dk_27 (dk_at dksX2_middleOf_0 6 rfl rfl)
theorem dX2_middleOf_7 : decode cX2_middleOf 7 = .ok (.iaload, 1) := dk_46 (dk_at dksX2_middleOf_0 7 rfl rfl)
theorem dX2_middleOf_8 : decode cX2_middleOf 8 = .ok (.invokevirtual 100, 3) := dk_182 0 100 (dk_at dksX2_middleOf_0 8 rfl rfl)
theorem dX2_middleOf_11 : decode cX2_middleOf 11 = .ok (.ifCond .eq 10, 3) := dk_153 0 10 (dk_at dksX2_middleOf_0 11 rfl rfl)
theorem dX2_middleOf_14 : decode cX2_middleOf 14 = .ok (.aload_n 0, 1) := dk_42 (dk_at dksX2_middleOf_0 14 rfl rfl)
theorem dX2_middleOf_15 : decode cX2_middleOf 15 = .ok (.iload_n 1, 1) := dk_27 (dk_at dksX2_middleOf_0 15 rfl rfl)
theorem dX2_middleOf_16 : decode cX2_middleOf 16 = .ok (.iload_n 2, 1) := dk_28 (dk_at dksX2_middleOf_0 16 rfl rfl)
theorem dX2_middleOf_17 : decode cX2_middleOf 17 = .ok (.invokevirtual 97, 3) := dk_182 0 97 (dk_at dksX2_middleOf_0 17 rfl rfl)
theorem dX2_middleOf_20 : decode cX2_middleOf 20 = .ok (.ireturn, 1) := dk_172 (dk_at dksX2_middleOf_0 20 rfl rfl)
theorem dX2_middleOf_21 : decode cX2_middleOf 21 = .ok (.iconst 0, 1) := dk_3 (dk_at dksX2_middleOf_0 21 rfl rfl)
theorem dX2_middleOf_22 : decode cX2_middleOf 22 = .ok (.istore_n 3, 1) := dk_62 (dk_at dksX2_middleOf_0 22 rfl rfl)
theorem dX2_middleOf_23 : decode cX2_middleOf 23 = .ok (.iload_n 3, 1) := dk_29 (dk_at dksX2_middleOf_0 23 rfl rfl)
theorem dX2_middleOf_24 : decode cX2_middleOf 24 = .ok (.aload_n 0, 1) := dk_42 (dk_at dksX2_middleOf_1 0 rfl rfl)
theorem dX2_middleOf_25 : decode cX2_middleOf 25 = .ok (.getfield 7, 3) := dk_180 0 7 (dk_at dksX2_middleOf_1 1 rfl rfl)
theorem dX2_middleOf_28 : decode cX2_middleOf 28 = .ok (.iload_n 1, 1) := dk_27 (dk_at dksX2_middleOf_1 4 rfl rfl)
theorem dX2_middleOf_29 : decode cX2_middleOf 29 = .ok (.iaload, 1) := dk_46 (dk_at dksX2_middleOf_1 5 rfl rfl)
theorem dX2_middleOf_30 : decode cX2_middleOf 30 = .ok (.if_icmp .ge 21, 3) := dk_162 0 21 (dk_at dksX2_middleOf_1 6 rfl rfl)
theorem dX2_middleOf_33 : decode cX2_middleOf 33 = .ok (.aload_n 0, 1) := dk_42 (dk_at dksX2_middleOf_1 9 rfl rfl)
theorem dX2_middleOf_34 : decode cX2_middleOf 34 = .ok (.iload_n 3, 1) := dk_29 (dk_at dksX2_middleOf_1 10 rfl rfl)
theorem dX2_middleOf_35 : decode cX2_middleOf 35 = .ok (.aload_n 0, 1) := dk_42 (dk_at dksX2_middleOf_1 11 rfl rfl)
theorem dX2_middleOf_36 : decode cX2_middleOf 36 = .ok (.iload_n 1, 1) := dk_27 (dk_at dksX2_middleOf_1 12 rfl rfl)
theorem dX2_middleOf_37 : decode cX2_middleOf 37 = .ok (.iload_n 3, 1) := dk_29 (dk_at dksX2_middleOf_1 13 rfl rfl)
theorem dX2_middleOf_38 : decode cX2_middleOf 38 = .ok (.iload_n 2, 1) := dk_28 (dk_at dksX2_middleOf_1 14 rfl rfl)
theorem dX2_middleOf_39 : decode cX2_middleOf 39 = .ok (.invokevirtual 104, 3) := dk_182 0 104 (dk_at dksX2_middleOf_1 15 rfl rfl)
theorem dX2_middleOf_42 : decode cX2_middleOf 42 = .ok (.invokevirtual 108, 3) := dk_182 0 108 (dk_at dksX2_middleOf_1 18 rfl rfl)
theorem dX2_middleOf_45 : decode cX2_middleOf 45 = .ok (.iinc 3 1, 3) := dk_132 3 1 (dk_at dksX2_middleOf_1 21 rfl rfl)
theorem dX2_middleOf_48 : decode cX2_middleOf 48 = .ok (.goto (-25), 3) := dk_167 255 231 (dk_at dksX2_middleOf_2 0 rfl rfl)
theorem dX2_middleOf_51 : decode cX2_middleOf 51 = .ok (.aload_n 0, 1) := dk_42 (dk_at dksX2_middleOf_2 3 rfl rfl)
theorem dX2_middleOf_52 : decode cX2_middleOf 52 = .ok (.iload_n 1, 1) := dk_27 (dk_at dksX2_middleOf_2 4 rfl rfl)
theorem dX2_middleOf_53 : decode cX2_middleOf 53 = .ok (.aload_n 0, 1) := dk_42 (dk_at dksX2_middleOf_2 5 rfl rfl)
theorem dX2_middleOf_54 : decode cX2_middleOf 54 = .ok (.getfield 7, 3) := dk_180 0 7 (dk_at dksX2_middleOf_2 6 rfl rfl)
theorem dX2_middleOf_57 : decode cX2_middleOf 57 = .ok (.iload_n 1, 1) := dk_27 (dk_at dksX2_middleOf_2 9 rfl rfl)
theorem dX2_middleOf_58 : decode cX2_middleOf 58 = .ok (.iaload, 1) := dk_46 (dk_at dksX2_middleOf_2 10 rfl rfl)
theorem dX2_middleOf_59 : decode cX2_middleOf 59 = .ok (.invokevirtual 111, 3) := dk_182 0 111 (dk_at dksX2_middleOf_2 11 rfl rfl)
theorem dX2_middleOf_62 : decode cX2_middleOf 62 = .ok (.ireturn, 1) := dk_172 (dk_at dksX2_middleOf_2 14 rfl rfl)
abbrev cX2_heard : ByteArray := prog_12_method_40_code
def yX2_heard : MethodName := ⟨RX2, "heard", "(III)I"⟩
def dkwX2_heard_4 : List UInt8 := [42, 27, 28, 182, 0, 160, 172, 42, 27, 28, 182, 0, 163, 172, 18, 36, 172]
abbrev dktX2_heard_4 : List UInt8 := dkwX2_heard_4 ++ []
def dkwX2_heard_3 : List UInt8 := [46, 16, 20, 96, 172, 42, 180, 0, 7, 16, 107, 16, 8, 27, 104, 96, 28, 96, 46, 17, 39, 15, 96, 172]
abbrev dktX2_heard_3 : List UInt8 := dkwX2_heard_3 ++ dktX2_heard_4
def dkwX2_heard_2 : List UInt8 := [42, 3, 27, 28, 182, 0, 104, 18, 156, 96, 172, 42, 180, 0, 7, 16, 43, 16, 8, 27, 104, 96, 28, 96]
abbrev dktX2_heard_2 : List UInt8 := dkwX2_heard_2 ++ dktX2_heard_3
def dkwX2_heard_1 : List UInt8 := [170, 0, 0, 0, 0, 0, 97, 0, 0, 0, 0, 0, 0, 0, 4, 0, 0, 0, 35, 0, 0, 0, 46, 0, 0, 0, 64, 0, 0, 0, 83, 0, 0, 0, 90]
abbrev dktX2_heard_1 : List UInt8 := dkwX2_heard_1 ++ dktX2_heard_2
def dkwX2_heard_0 : List UInt8 := [42, 27, 28, 182, 0, 157, 154, 0, 6, 18, 155, 172, 29]
abbrev dktX2_heard_0 : List UInt8 := dkwX2_heard_0 ++ dktX2_heard_1
theorem dksX2_heard_0 : cX2_heard.data.toList.drop 0 = dktX2_heard_0 := by decide +kernel
theorem dksX2_heard_1 : cX2_heard.data.toList.drop 13 = dktX2_heard_1 := dk_seg dksX2_heard_0 13 rfl rfl
theorem dksX2_heard_2 : cX2_heard.data.toList.drop 48 = dktX2_heard_2 := dk_seg dksX2_heard_1 35 rfl rfl
theorem dksX2_heard_3 : cX2_heard.data.toList.drop 72 = dktX2_heard_3 := dk_seg dksX2_heard_2 24 rfl rfl
theorem dksX2_heard_4 : cX2_heard.data.toList.drop 96 = dktX2_heard_4 := dk_seg dksX2_heard_3 24 rfl rfl
theorem dX2_heard_0 : decode cX2_heard 0 = .ok (.aload_n 0, 1) := dk_42 (dk_at dksX2_heard_0 0 rfl rfl)
theorem dX2_heard_1 : decode cX2_heard 1 = .ok (.iload_n 1, 1) := dk_27 (dk_at dksX2_heard_0 1 rfl rfl)
theorem dX2_heard_2 : decode cX2_heard 2 = .ok (.iload_n 2, 1) := dk_28 (dk_at dksX2_heard_0 2 rfl rfl)
theorem dX2_heard_3 : decode cX2_heard 3 = .ok (.invokevirtual 157, 3) := dk_182 0 157 (dk_at dksX2_heard_0 3 rfl rfl)
theorem dX2_heard_6 : decode cX2_heard 6 = .ok (.ifCond .ne 6, 3) := dk_154 0 6 (dk_at dksX2_heard_0 6 rfl rfl)
theorem dX2_heard_9 : decode cX2_heard 9 = .ok (.ldc 155, 2) := dk_18 155 (dk_at dksX2_heard_0 9 rfl rfl)
theorem dX2_heard_11 : decode cX2_heard 11 = .ok (.ireturn, 1) := dk_172 (dk_at dksX2_heard_0 11 rfl rfl)
theorem dX2_heard_12 : decode cX2_heard 12 = .ok (.iload_n 3, 1) := dk_29 (dk_at dksX2_heard_0 12 rfl rfl)
theorem dX2_heard_13 : decode cX2_heard 13 = .ok (.tableswitch 97 0 4 #[35, 46, 64, 83, 90], 35) := by decide +kernel
theorem dX2_heard_48 : decode cX2_heard 48 = .ok (.aload_n 0, 1) := dk_42 (dk_at dksX2_heard_2 0 rfl rfl)
theorem dX2_heard_49 : decode cX2_heard 49 = .ok (.iconst 0, 1) := dk_3 (dk_at dksX2_heard_2 1 rfl rfl)
theorem dX2_heard_50 : decode cX2_heard 50 = .ok (.iload_n 1, 1) := dk_27 (dk_at dksX2_heard_2 2 rfl rfl)
theorem dX2_heard_51 : decode cX2_heard 51 = .ok (.iload_n 2, 1) := dk_28 (dk_at dksX2_heard_2 3 rfl rfl)
theorem dX2_heard_52 : decode cX2_heard 52 = .ok (.invokevirtual 104, 3) := dk_182 0 104 (dk_at dksX2_heard_2 4 rfl rfl)
theorem dX2_heard_55 : decode cX2_heard 55 = .ok (.ldc 156, 2) := dk_18 156 (dk_at dksX2_heard_2 7 rfl rfl)
theorem dX2_heard_57 : decode cX2_heard 57 = .ok (.iadd, 1) := dk_96 (dk_at dksX2_heard_2 9 rfl rfl)
theorem dX2_heard_58 : decode cX2_heard 58 = .ok (.ireturn, 1) := dk_172 (dk_at dksX2_heard_2 10 rfl rfl)
theorem dX2_heard_59 : decode cX2_heard 59 = .ok (.aload_n 0, 1) := dk_42 (dk_at dksX2_heard_2 11 rfl rfl)
theorem dX2_heard_60 : decode cX2_heard 60 = .ok (.getfield 7, 3) := dk_180 0 7 (dk_at dksX2_heard_2 12 rfl rfl)
theorem dX2_heard_63 : decode cX2_heard 63 = .ok (.bipush 43, 2) := dk_16 43 (dk_at dksX2_heard_2 15 rfl rfl)
theorem dX2_heard_65 : decode cX2_heard 65 = .ok (.bipush 8, 2) := dk_16 8 (dk_at dksX2_heard_2 17 rfl rfl)
theorem dX2_heard_67 : decode cX2_heard 67 = .ok (.iload_n 1, 1) := dk_27 (dk_at dksX2_heard_2 19 rfl rfl)
theorem dX2_heard_68 : decode cX2_heard 68 = .ok (.imul, 1) := dk_104 (dk_at dksX2_heard_2 20 rfl rfl)
theorem dX2_heard_69 : decode cX2_heard 69 = .ok (.iadd, 1) := dk_96 (dk_at dksX2_heard_2 21 rfl rfl)
theorem dX2_heard_70 : decode cX2_heard 70 = .ok (.iload_n 2, 1) := dk_28 (dk_at dksX2_heard_2 22 rfl rfl)
theorem dX2_heard_71 : decode cX2_heard 71 = .ok (.iadd, 1) := dk_96 (dk_at dksX2_heard_2 23 rfl rfl)
theorem dX2_heard_72 : decode cX2_heard 72 = .ok (.iaload, 1) := dk_46 (dk_at dksX2_heard_3 0 rfl rfl)
theorem dX2_heard_73 : decode cX2_heard 73 = .ok (.bipush 20, 2) := dk_16 20 (dk_at dksX2_heard_3 1 rfl rfl)
theorem dX2_heard_75 : decode cX2_heard 75 = .ok (.iadd, 1) := dk_96 (dk_at dksX2_heard_3 3 rfl rfl)
theorem dX2_heard_76 : decode cX2_heard 76 = .ok (.ireturn, 1) := dk_172 (dk_at dksX2_heard_3 4 rfl rfl)
theorem dX2_heard_77 : decode cX2_heard 77 = .ok (.aload_n 0, 1) := dk_42 (dk_at dksX2_heard_3 5 rfl rfl)
theorem dX2_heard_78 : decode cX2_heard 78 = .ok (.getfield 7, 3) := dk_180 0 7 (dk_at dksX2_heard_3 6 rfl rfl)
theorem dX2_heard_81 : decode cX2_heard 81 = .ok (.bipush 107, 2) := dk_16 107 (dk_at dksX2_heard_3 9 rfl rfl)
theorem dX2_heard_83 : decode cX2_heard 83 = .ok (.bipush 8, 2) := dk_16 8 (dk_at dksX2_heard_3 11 rfl rfl)
theorem dX2_heard_85 : decode cX2_heard 85 = .ok (.iload_n 1, 1) := dk_27 (dk_at dksX2_heard_3 13 rfl rfl)
theorem dX2_heard_86 : decode cX2_heard 86 = .ok (.imul, 1) := dk_104 (dk_at dksX2_heard_3 14 rfl rfl)
theorem dX2_heard_87 : decode cX2_heard 87 = .ok (.iadd, 1) := dk_96 (dk_at dksX2_heard_3 15 rfl rfl)
theorem dX2_heard_88 : decode cX2_heard 88 = .ok (.iload_n 2, 1) := dk_28 (dk_at dksX2_heard_3 16 rfl rfl)
theorem dX2_heard_89 : decode cX2_heard 89 = .ok (.iadd, 1) := dk_96 (dk_at dksX2_heard_3 17 rfl rfl)
theorem dX2_heard_90 : decode cX2_heard 90 = .ok (.iaload, 1) := dk_46 (dk_at dksX2_heard_3 18 rfl rfl)
theorem dX2_heard_91 : decode cX2_heard 91 = .ok (.sipush 9999, 3) := dk_17 39 15 (dk_at dksX2_heard_3 19 rfl rfl)
theorem dX2_heard_94 : decode cX2_heard 94 = .ok (.iadd, 1) := dk_96 (dk_at dksX2_heard_3 22 rfl rfl)
theorem dX2_heard_95 : decode cX2_heard 95 = .ok (.ireturn, 1) := dk_172 (dk_at dksX2_heard_3 23 rfl rfl)
theorem dX2_heard_96 : decode cX2_heard 96 = .ok (.aload_n 0, 1) := dk_42 (dk_at dksX2_heard_4 0 rfl rfl)
theorem dX2_heard_97 : decode cX2_heard 97 = .ok (.iload_n 1, 1) := dk_27 (dk_at dksX2_heard_4 1 rfl rfl)
theorem dX2_heard_98 : decode cX2_heard 98 = .ok (.iload_n 2, 1) := dk_28 (dk_at dksX2_heard_4 2 rfl rfl)
theorem dX2_heard_99 : decode cX2_heard 99 = .ok (.invokevirtual 160, 3) := dk_182 0 160 (dk_at dksX2_heard_4 3 rfl rfl)
theorem dX2_heard_102 : decode cX2_heard 102 = .ok (.ireturn, 1) := dk_172 (dk_at dksX2_heard_4 6 rfl rfl)
theorem dX2_heard_103 : decode cX2_heard 103 = .ok (.aload_n 0, 1) := dk_42 (dk_at dksX2_heard_4 7 rfl rfl)
theorem dX2_heard_104 : decode cX2_heard 104 = .ok (.iload_n 1, 1) := dk_27 (dk_at dksX2_heard_4 8 rfl rfl)
theorem dX2_heard_105 : decode cX2_heard 105 = .ok (.iload_n 2, 1) := dk_28 (dk_at dksX2_heard_4 9 rfl rfl)
theorem dX2_heard_106 : decode cX2_heard 106 = .ok (.invokevirtual 163, 3) := dk_182 0 163 (dk_at dksX2_heard_4 10 rfl rfl)
theorem dX2_heard_109 : decode cX2_heard 109 = .ok (.ireturn, 1) := dk_172 (dk_at dksX2_heard_4 13 rfl rfl)
theorem dX2_heard_110 : decode cX2_heard 110 = .ok (.ldc 36, 2) := dk_18 36 (dk_at dksX2_heard_4 14 rfl rfl)
theorem dX2_heard_112 : decode cX2_heard 112 = .ok (.ireturn, 1) := dk_172 (dk_at dksX2_heard_4 16 rfl rfl)
abbrev cX2_arePair : ByteArray := prog_12_method_39_code
def yX2_arePair : MethodName := ⟨RX2, "arePair", "(II)Z"⟩
def dkwX2_arePair_1 : List UInt8 := [167, 0, 4, 3, 172]
abbrev dktX2_arePair_1 : List UInt8 := dkwX2_arePair_1 ++ []
def dkwX2_arePair_0 : List UInt8 := [42, 27, 182, 0, 136, 153, 0, 20, 42, 28, 182, 0, 136, 153, 0, 12, 27, 28, 159, 0, 7, 4]
abbrev dktX2_arePair_0 : List UInt8 := dkwX2_arePair_0 ++ dktX2_arePair_1
theorem dksX2_arePair_0 : cX2_arePair.data.toList.drop 0 = dktX2_arePair_0 := by decide +kernel
theorem dksX2_arePair_1 : cX2_arePair.data.toList.drop 22 = dktX2_arePair_1 := dk_seg dksX2_arePair_0 22 rfl rfl
theorem dX2_arePair_0 : decode cX2_arePair 0 = .ok (.aload_n 0, 1) := dk_42 (dk_at dksX2_arePair_0 0 rfl rfl)
theorem dX2_arePair_1 : decode cX2_arePair 1 = .ok (.iload_n 1, 1) := dk_27 (dk_at dksX2_arePair_0 1 rfl rfl)
theorem dX2_arePair_2 : decode cX2_arePair 2 = .ok (.invokevirtual 136, 3) := dk_182 0 136 (dk_at dksX2_arePair_0 2 rfl rfl)
theorem dX2_arePair_5 : decode cX2_arePair 5 = .ok (.ifCond .eq 20, 3) := dk_153 0 20 (dk_at dksX2_arePair_0 5 rfl rfl)
theorem dX2_arePair_8 : decode cX2_arePair 8 = .ok (.aload_n 0, 1) := dk_42 (dk_at dksX2_arePair_0 8 rfl rfl)
theorem dX2_arePair_9 : decode cX2_arePair 9 = .ok (.iload_n 2, 1) := dk_28 (dk_at dksX2_arePair_0 9 rfl rfl)
theorem dX2_arePair_10 : decode cX2_arePair 10 = .ok (.invokevirtual 136, 3) := dk_182 0 136 (dk_at dksX2_arePair_0 10 rfl rfl)
theorem dX2_arePair_13 : decode cX2_arePair 13 = .ok (.ifCond .eq 12, 3) := dk_153 0 12 (dk_at dksX2_arePair_0 13 rfl rfl)
theorem dX2_arePair_16 : decode cX2_arePair 16 = .ok (.iload_n 1, 1) := dk_27 (dk_at dksX2_arePair_0 16 rfl rfl)
theorem dX2_arePair_17 : decode cX2_arePair 17 = .ok (.iload_n 2, 1) := dk_28 (dk_at dksX2_arePair_0 17 rfl rfl)
theorem dX2_arePair_18 : decode cX2_arePair 18 = .ok (.if_icmp .eq 7, 3) := dk_159 0 7 (dk_at dksX2_arePair_0 18 rfl rfl)
theorem dX2_arePair_21 : decode cX2_arePair 21 = .ok (.iconst 1, 1) := dk_4 (dk_at dksX2_arePair_0 21 rfl rfl)
theorem dX2_arePair_22 : decode cX2_arePair 22 = .ok (.goto 4, 3) := dk_167 0 4 (dk_at dksX2_arePair_1 0 rfl rfl)
theorem dX2_arePair_25 : decode cX2_arePair 25 = .ok (.iconst 0, 1) := dk_3 (dk_at dksX2_arePair_1 3 rfl rfl)
theorem dX2_arePair_26 : decode cX2_arePair 26 = .ok (.ireturn, 1) := dk_172 (dk_at dksX2_arePair_1 4 rfl rfl)
abbrev cX2_rank : ByteArray := prog_12_method_32_code
def yX2_rank : MethodName := ⟨RX2, "rank", "(II)I"⟩
def dkwX2_rank_3 : List UInt8 := [21, 4, 172]
abbrev dktX2_rank_3 : List UInt8 := dkwX2_rank_3 ++ []
def dkwX2_rank_2 : List UInt8 := [160, 0, 13, 21, 5, 27, 162, 0, 7, 4, 167, 0, 4, 3, 96, 54, 4, 132, 5, 1, 167, 255, 204]
abbrev dktX2_rank_2 : List UInt8 := dkwX2_rank_2 ++ dktX2_rank_3
def dkwX2_rank_1 : List UInt8 := [162, 0, 47, 42, 3, 21, 5, 28, 182, 0, 104, 54, 6, 21, 4, 21, 6, 29, 161, 0, 15, 21, 6, 29]
abbrev dktX2_rank_1 : List UInt8 := dkwX2_rank_1 ++ dktX2_rank_2
def dkwX2_rank_0 : List UInt8 := [42, 3, 27, 28, 182, 0, 104, 62, 3, 54, 4, 3, 54, 5, 21, 5, 42, 180, 0, 7, 3, 46]
abbrev dktX2_rank_0 : List UInt8 := dkwX2_rank_0 ++ dktX2_rank_1
theorem dksX2_rank_0 : cX2_rank.data.toList.drop 0 = dktX2_rank_0 := by decide +kernel
theorem dksX2_rank_1 : cX2_rank.data.toList.drop 22 = dktX2_rank_1 := dk_seg dksX2_rank_0 22 rfl rfl
theorem dksX2_rank_2 : cX2_rank.data.toList.drop 46 = dktX2_rank_2 := dk_seg dksX2_rank_1 24 rfl rfl
theorem dksX2_rank_3 : cX2_rank.data.toList.drop 69 = dktX2_rank_3 := dk_seg dksX2_rank_2 23 rfl rfl
theorem dX2_rank_0 : decode cX2_rank 0 = .ok (.aload_n 0, 1) := dk_42 (dk_at dksX2_rank_0 0 rfl rfl)
theorem dX2_rank_1 : decode cX2_rank 1 = .ok (.iconst 0, 1) := dk_3 (dk_at dksX2_rank_0 1 rfl rfl)
theorem dX2_rank_2 : decode cX2_rank 2 = .ok (.iload_n 1, 1) := dk_27 (dk_at dksX2_rank_0 2 rfl rfl)
theorem dX2_rank_3 : decode cX2_rank 3 = .ok (.iload_n 2, 1) := dk_28 (dk_at dksX2_rank_0 3 rfl rfl)
theorem dX2_rank_4 : decode cX2_rank 4 = .ok (.invokevirtual 104, 3) := dk_182 0 104 (dk_at dksX2_rank_0 4 rfl rfl)
theorem dX2_rank_7 : decode cX2_rank 7 = .ok (.istore_n 3, 1) := dk_62 (dk_at dksX2_rank_0 7 rfl rfl)
theorem dX2_rank_8 : decode cX2_rank 8 = .ok (.iconst 0, 1) := dk_3 (dk_at dksX2_rank_0 8 rfl rfl)
theorem dX2_rank_9 : decode cX2_rank 9 = .ok (.istore 4, 2) := dk_54 4 (dk_at dksX2_rank_0 9 rfl rfl)
theorem dX2_rank_11 : decode cX2_rank 11 = .ok (.iconst 0, 1) := dk_3 (dk_at dksX2_rank_0 11 rfl rfl)
theorem dX2_rank_12 : decode cX2_rank 12 = .ok (.istore 5, 2) := dk_54 5 (dk_at dksX2_rank_0 12 rfl rfl)
theorem dX2_rank_14 : decode cX2_rank 14 = .ok (.iload 5, 2) := dk_21 5 (dk_at dksX2_rank_0 14 rfl rfl)
theorem dX2_rank_16 : decode cX2_rank 16 = .ok (.aload_n 0, 1) := dk_42 (dk_at dksX2_rank_0 16 rfl rfl)
theorem dX2_rank_17 : decode cX2_rank 17 = .ok (.getfield 7, 3) := dk_180 0 7 (dk_at dksX2_rank_0 17 rfl rfl)
theorem dX2_rank_20 : decode cX2_rank 20 = .ok (.iconst 0, 1) := dk_3 (dk_at dksX2_rank_0 20 rfl rfl)
theorem dX2_rank_21 : decode cX2_rank 21 = .ok (.iaload, 1) := dk_46 (dk_at dksX2_rank_0 21 rfl rfl)
theorem dX2_rank_22 : decode cX2_rank 22 = .ok (.if_icmp .ge 47, 3) := dk_162 0 47 (dk_at dksX2_rank_1 0 rfl rfl)
theorem dX2_rank_25 : decode cX2_rank 25 = .ok (.aload_n 0, 1) := dk_42 (dk_at dksX2_rank_1 3 rfl rfl)
theorem dX2_rank_26 : decode cX2_rank 26 = .ok (.iconst 0, 1) := dk_3 (dk_at dksX2_rank_1 4 rfl rfl)
theorem dX2_rank_27 : decode cX2_rank 27 = .ok (.iload 5, 2) := dk_21 5 (dk_at dksX2_rank_1 5 rfl rfl)
theorem dX2_rank_29 : decode cX2_rank 29 = .ok (.iload_n 2, 1) := dk_28 (dk_at dksX2_rank_1 7 rfl rfl)
theorem dX2_rank_30 : decode cX2_rank 30 = .ok (.invokevirtual 104, 3) := dk_182 0 104 (dk_at dksX2_rank_1 8 rfl rfl)
theorem dX2_rank_33 : decode cX2_rank 33 = .ok (.istore 6, 2) := dk_54 6 (dk_at dksX2_rank_1 11 rfl rfl)
theorem dX2_rank_35 : decode cX2_rank 35 = .ok (.iload 4, 2) := dk_21 4 (dk_at dksX2_rank_1 13 rfl rfl)
theorem dX2_rank_37 : decode cX2_rank 37 = .ok (.iload 6, 2) := dk_21 6 (dk_at dksX2_rank_1 15 rfl rfl)
theorem dX2_rank_39 : decode cX2_rank 39 = .ok (.iload_n 3, 1) := dk_29 (dk_at dksX2_rank_1 17 rfl rfl)
theorem dX2_rank_40 : decode cX2_rank 40 = .ok (.if_icmp .lt 15, 3) := dk_161 0 15 (dk_at dksX2_rank_1 18 rfl rfl)
theorem dX2_rank_43 : decode cX2_rank 43 = .ok (.iload 6, 2) := dk_21 6 (dk_at dksX2_rank_1 21 rfl rfl)
theorem dX2_rank_45 : decode cX2_rank 45 = .ok (.iload_n 3, 1) := dk_29 (dk_at dksX2_rank_1 23 rfl rfl)
theorem dX2_rank_46 : decode cX2_rank 46 = .ok (.if_icmp .ne 13, 3) := dk_160 0 13 (dk_at dksX2_rank_2 0 rfl rfl)
theorem dX2_rank_49 : decode cX2_rank 49 = .ok (.iload 5, 2) := dk_21 5 (dk_at dksX2_rank_2 3 rfl rfl)
theorem dX2_rank_51 : decode cX2_rank 51 = .ok (.iload_n 1, 1) := dk_27 (dk_at dksX2_rank_2 5 rfl rfl)
theorem dX2_rank_52 : decode cX2_rank 52 = .ok (.if_icmp .ge 7, 3) := dk_162 0 7 (dk_at dksX2_rank_2 6 rfl rfl)
theorem dX2_rank_55 : decode cX2_rank 55 = .ok (.iconst 1, 1) := dk_4 (dk_at dksX2_rank_2 9 rfl rfl)
theorem dX2_rank_56 : decode cX2_rank 56 = .ok (.goto 4, 3) := dk_167 0 4 (dk_at dksX2_rank_2 10 rfl rfl)
theorem dX2_rank_59 : decode cX2_rank 59 = .ok (.iconst 0, 1) := dk_3 (dk_at dksX2_rank_2 13 rfl rfl)
theorem dX2_rank_60 : decode cX2_rank 60 = .ok (.iadd, 1) := dk_96 (dk_at dksX2_rank_2 14 rfl rfl)
theorem dX2_rank_61 : decode cX2_rank 61 = .ok (.istore 4, 2) := dk_54 4 (dk_at dksX2_rank_2 15 rfl rfl)
theorem dX2_rank_63 : decode cX2_rank 63 = .ok (.iinc 5 1, 3) := dk_132 5 1 (dk_at dksX2_rank_2 17 rfl rfl)
theorem dX2_rank_66 : decode cX2_rank 66 = .ok (.goto (-52), 3) := dk_167 255 204 (dk_at dksX2_rank_2 20 rfl rfl)
theorem dX2_rank_69 : decode cX2_rank 69 = .ok (.iload 4, 2) := dk_21 4 (dk_at dksX2_rank_3 0 rfl rfl)
theorem dX2_rank_71 : decode cX2_rank 71 = .ok (.ireturn, 1) := dk_172 (dk_at dksX2_rank_3 2 rfl rfl)
abbrev cX2_farthest : ByteArray := prog_12_method_33_code
def yX2_farthest : MethodName := ⟨RX2, "farthest", "(II)I"⟩
def dkwX2_farthest_6 : List UInt8 := [167, 255, 163, 42, 180, 0, 7, 29, 21, 4, 79, 21, 5, 172]
abbrev dktX2_farthest_6 : List UInt8 := dkwX2_farthest_6 ++ []
def dkwX2_farthest_5 : List UInt8 := [21, 5, 54, 5, 21, 8, 21, 6, 164, 0, 8, 21, 8, 167, 0, 5, 21, 6, 54, 6, 132, 7, 1]
abbrev dktX2_farthest_5 : List UInt8 := dkwX2_farthest_5 ++ dktX2_farthest_6
def dkwX2_farthest_4 : List UInt8 := [21, 8, 54, 8, 21, 8, 21, 6, 164, 0, 16, 42, 180, 0, 7, 29, 46, 17, 39, 15, 96, 167, 0, 5]
abbrev dktX2_farthest_4 : List UInt8 := dkwX2_farthest_4 ++ dktX2_farthest_5
def dkwX2_farthest_3 : List UInt8 := [182, 0, 117, 42, 3, 28, 182, 0, 97, 100, 54, 8, 21, 8, 156, 0, 9, 21, 8, 116, 167, 0, 5]
abbrev dktX2_farthest_3 : List UInt8 := dkwX2_farthest_3 ++ dktX2_farthest_4
def dkwX2_farthest_2 : List UInt8 := [21, 7, 6, 162, 0, 93, 42, 180, 0, 7, 29, 17, 39, 15, 21, 7, 4, 100, 104, 79, 42, 3, 28]
abbrev dktX2_farthest_2 : List UInt8 := dkwX2_farthest_2 ++ dktX2_farthest_3
def dkwX2_farthest_1 : List UInt8 := [27, 104, 96, 28, 96, 62, 42, 180, 0, 7, 29, 46, 54, 4, 3, 54, 5, 2, 54, 6, 3, 54, 7]
abbrev dktX2_farthest_1 : List UInt8 := dkwX2_farthest_1 ++ dktX2_farthest_2
def dkwX2_farthest_0 : List UInt8 := [42, 3, 28, 182, 0, 114, 153, 0, 12, 42, 3, 27, 182, 0, 120, 154, 0, 5, 2, 172, 16, 107, 16, 8]
abbrev dktX2_farthest_0 : List UInt8 := dkwX2_farthest_0 ++ dktX2_farthest_1
theorem dksX2_farthest_0 : cX2_farthest.data.toList.drop 0 = dktX2_farthest_0 := by decide +kernel
theorem dksX2_farthest_1 : cX2_farthest.data.toList.drop 24 = dktX2_farthest_1 := dk_seg dksX2_farthest_0 24 rfl rfl
theorem dksX2_farthest_2 : cX2_farthest.data.toList.drop 47 = dktX2_farthest_2 := dk_seg dksX2_farthest_1 23 rfl rfl
theorem dksX2_farthest_3 : cX2_farthest.data.toList.drop 70 = dktX2_farthest_3 := dk_seg dksX2_farthest_2 23 rfl rfl
theorem dksX2_farthest_4 : cX2_farthest.data.toList.drop 93 = dktX2_farthest_4 := dk_seg dksX2_farthest_3 23 rfl rfl
theorem dksX2_farthest_5 : cX2_farthest.data.toList.drop 117 = dktX2_farthest_5 := dk_seg dksX2_farthest_4 24 rfl rfl
theorem dksX2_farthest_6 : cX2_farthest.data.toList.drop 140 = dktX2_farthest_6 := dk_seg dksX2_farthest_5 23 rfl rfl
theorem dX2_farthest_0 : decode cX2_farthest 0 = .ok (.aload_n 0, 1) := dk_42 (dk_at dksX2_farthest_0 0 rfl rfl)
theorem dX2_farthest_1 : decode cX2_farthest 1 = .ok (.iconst 0, 1) := dk_3 (dk_at dksX2_farthest_0 1 rfl rfl)
theorem dX2_farthest_2 : decode cX2_farthest 2 = .ok (.iload_n 2, 1) := dk_28 (dk_at dksX2_farthest_0 2 rfl rfl)
theorem dX2_farthest_3 : decode cX2_farthest 3 = .ok (.invokevirtual 114, 3) := dk_182 0 114 (dk_at dksX2_farthest_0 3 rfl rfl)
theorem dX2_farthest_6 : decode cX2_farthest 6 = .ok (.ifCond .eq 12, 3) := dk_153 0 12 (dk_at dksX2_farthest_0 6 rfl rfl)
theorem dX2_farthest_9 : decode cX2_farthest 9 = .ok (.aload_n 0, 1) := dk_42 (dk_at dksX2_farthest_0 9 rfl rfl)
theorem dX2_farthest_10 : decode cX2_farthest 10 = .ok (.iconst 0, 1) := dk_3 (dk_at dksX2_farthest_0 10 rfl rfl)
theorem dX2_farthest_11 : decode cX2_farthest 11 = .ok (.iload_n 1, 1) := dk_27 (dk_at dksX2_farthest_0 11 rfl rfl)
theorem dX2_farthest_12 : decode cX2_farthest 12 = .ok (.invokevirtual 120, 3) := dk_182 0 120 (dk_at dksX2_farthest_0 12 rfl rfl)
theorem dX2_farthest_15 : decode cX2_farthest 15 = .ok (.ifCond .ne 5, 3) := dk_154 0 5 (dk_at dksX2_farthest_0 15 rfl rfl)
theorem dX2_farthest_18 : decode cX2_farthest 18 = .ok (.iconst (-1), 1) := dk_2 (dk_at dksX2_farthest_0 18 rfl rfl)
theorem dX2_farthest_19 : decode cX2_farthest 19 = .ok (.ireturn, 1) := dk_172 (dk_at dksX2_farthest_0 19 rfl rfl)
theorem dX2_farthest_20 : decode cX2_farthest 20 = .ok (.bipush 107, 2) := dk_16 107 (dk_at dksX2_farthest_0 20 rfl rfl)
theorem dX2_farthest_22 : decode cX2_farthest 22 = .ok (.bipush 8, 2) := dk_16 8 (dk_at dksX2_farthest_0 22 rfl rfl)
theorem dX2_farthest_24 : decode cX2_farthest 24 = .ok (.iload_n 1, 1) := dk_27 (dk_at dksX2_farthest_1 0 rfl rfl)
theorem dX2_farthest_25 : decode cX2_farthest 25 = .ok (.imul, 1) := dk_104 (dk_at dksX2_farthest_1 1 rfl rfl)
theorem dX2_farthest_26 : decode cX2_farthest 26 = .ok (.iadd, 1) := dk_96 (dk_at dksX2_farthest_1 2 rfl rfl)
theorem dX2_farthest_27 : decode cX2_farthest 27 = .ok (.iload_n 2, 1) := dk_28 (dk_at dksX2_farthest_1 3 rfl rfl)
theorem dX2_farthest_28 : decode cX2_farthest 28 = .ok (.iadd, 1) := dk_96 (dk_at dksX2_farthest_1 4 rfl rfl)
theorem dX2_farthest_29 : decode cX2_farthest 29 = .ok (.istore_n 3, 1) := dk_62 (dk_at dksX2_farthest_1 5 rfl rfl)
theorem dX2_farthest_30 : decode cX2_farthest 30 = .ok (.aload_n 0, 1) := dk_42 (dk_at dksX2_farthest_1 6 rfl rfl)
theorem dX2_farthest_31 : decode cX2_farthest 31 = .ok (.getfield 7, 3) := dk_180 0 7 (dk_at dksX2_farthest_1 7 rfl rfl)
theorem dX2_farthest_34 : decode cX2_farthest 34 = .ok (.iload_n 3, 1) := dk_29 (dk_at dksX2_farthest_1 10 rfl rfl)
theorem dX2_farthest_35 : decode cX2_farthest 35 = .ok (.iaload, 1) := dk_46 (dk_at dksX2_farthest_1 11 rfl rfl)
theorem dX2_farthest_36 : decode cX2_farthest 36 = .ok (.istore 4, 2) := dk_54 4 (dk_at dksX2_farthest_1 12 rfl rfl)
theorem dX2_farthest_38 : decode cX2_farthest 38 = .ok (.iconst 0, 1) := dk_3 (dk_at dksX2_farthest_1 14 rfl rfl)
theorem dX2_farthest_39 : decode cX2_farthest 39 = .ok (.istore 5, 2) := dk_54 5 (dk_at dksX2_farthest_1 15 rfl rfl)
theorem dX2_farthest_41 : decode cX2_farthest 41 = .ok (.iconst (-1), 1) := dk_2 (dk_at dksX2_farthest_1 17 rfl rfl)
theorem dX2_farthest_42 : decode cX2_farthest 42 = .ok (.istore 6, 2) := dk_54 6 (dk_at dksX2_farthest_1 18 rfl rfl)
theorem dX2_farthest_44 : decode cX2_farthest 44 = .ok (.iconst 0, 1) := dk_3 (dk_at dksX2_farthest_1 20 rfl rfl)
theorem dX2_farthest_45 : decode cX2_farthest 45 = .ok (.istore 7, 2) := dk_54 7 (dk_at dksX2_farthest_1 21 rfl rfl)
theorem dX2_farthest_47 : decode cX2_farthest 47 = .ok (.iload 7, 2) := dk_21 7 (dk_at dksX2_farthest_2 0 rfl rfl)
theorem dX2_farthest_49 : decode cX2_farthest 49 = .ok (.iconst 3, 1) := dk_6 (dk_at dksX2_farthest_2 2 rfl rfl)
theorem dX2_farthest_50 : decode cX2_farthest 50 = .ok (.if_icmp .ge 93, 3) := dk_162 0 93 (dk_at dksX2_farthest_2 3 rfl rfl)
theorem dX2_farthest_53 : decode cX2_farthest 53 = .ok (.aload_n 0, 1) := dk_42 (dk_at dksX2_farthest_2 6 rfl rfl)
theorem dX2_farthest_54 : decode cX2_farthest 54 = .ok (.getfield 7, 3) := dk_180 0 7 (dk_at dksX2_farthest_2 7 rfl rfl)
theorem dX2_farthest_57 : decode cX2_farthest 57 = .ok (.iload_n 3, 1) := dk_29 (dk_at dksX2_farthest_2 10 rfl rfl)
theorem dX2_farthest_58 : decode cX2_farthest 58 = .ok (.sipush 9999, 3) := dk_17 39 15 (dk_at dksX2_farthest_2 11 rfl rfl)
theorem dX2_farthest_61 : decode cX2_farthest 61 = .ok (.iload 7, 2) := dk_21 7 (dk_at dksX2_farthest_2 14 rfl rfl)
theorem dX2_farthest_63 : decode cX2_farthest 63 = .ok (.iconst 1, 1) := dk_4 (dk_at dksX2_farthest_2 16 rfl rfl)
theorem dX2_farthest_64 : decode cX2_farthest 64 = .ok (.isub, 1) := dk_100 (dk_at dksX2_farthest_2 17 rfl rfl)
theorem dX2_farthest_65 : decode cX2_farthest 65 = .ok (.imul, 1) := dk_104 (dk_at dksX2_farthest_2 18 rfl rfl)
theorem dX2_farthest_66 : decode cX2_farthest 66 = .ok (.iastore, 1) := dk_79 (dk_at dksX2_farthest_2 19 rfl rfl)
theorem dX2_farthest_67 : decode cX2_farthest 67 = .ok (.aload_n 0, 1) := dk_42 (dk_at dksX2_farthest_2 20 rfl rfl)
theorem dX2_farthest_68 : decode cX2_farthest 68 = .ok (.iconst 0, 1) := dk_3 (dk_at dksX2_farthest_2 21 rfl rfl)
theorem dX2_farthest_69 : decode cX2_farthest 69 = .ok (.iload_n 2, 1) := dk_28 (dk_at dksX2_farthest_2 22 rfl rfl)
theorem dX2_farthest_70 : decode cX2_farthest 70 = .ok (.invokevirtual 117, 3) := dk_182 0 117 (dk_at dksX2_farthest_3 0 rfl rfl)
theorem dX2_farthest_73 : decode cX2_farthest 73 = .ok (.aload_n 0, 1) := dk_42 (dk_at dksX2_farthest_3 3 rfl rfl)
theorem dX2_farthest_74 : decode cX2_farthest 74 = .ok (.iconst 0, 1) := dk_3 (dk_at dksX2_farthest_3 4 rfl rfl)
theorem dX2_farthest_75 : decode cX2_farthest 75 = .ok (.iload_n 2, 1) := dk_28 (dk_at dksX2_farthest_3 5 rfl rfl)
theorem dX2_farthest_76 : decode cX2_farthest 76 = .ok (.invokevirtual 97, 3) := dk_182 0 97 (dk_at dksX2_farthest_3 6 rfl rfl)
theorem dX2_farthest_79 : decode cX2_farthest 79 = .ok (.isub, 1) := dk_100 (dk_at dksX2_farthest_3 9 rfl rfl)
theorem dX2_farthest_80 : decode cX2_farthest 80 = .ok (.istore 8, 2) := dk_54 8 (dk_at dksX2_farthest_3 10 rfl rfl)
theorem dX2_farthest_82 : decode cX2_farthest 82 = .ok (.iload 8, 2) := dk_21 8 (dk_at dksX2_farthest_3 12 rfl rfl)
theorem dX2_farthest_84 : decode cX2_farthest 84 = .ok (.ifCond .ge 9, 3) := dk_156 0 9 (dk_at dksX2_farthest_3 14 rfl rfl)
theorem dX2_farthest_87 : decode cX2_farthest 87 = .ok (.iload 8, 2) := dk_21 8 (dk_at dksX2_farthest_3 17 rfl rfl)
theorem dX2_farthest_89 : decode cX2_farthest 89 = .ok (.ineg, 1) := dk_116 (dk_at dksX2_farthest_3 19 rfl rfl)
theorem dX2_farthest_90 : decode cX2_farthest 90 = .ok (.goto 5, 3) := dk_167 0 5 (dk_at dksX2_farthest_3 20 rfl rfl)
theorem dX2_farthest_93 : decode cX2_farthest 93 = .ok (.iload 8, 2) := dk_21 8 (dk_at dksX2_farthest_4 0 rfl rfl)
theorem dX2_farthest_95 : decode cX2_farthest 95 = .ok (.istore 8, 2) := dk_54 8 (dk_at dksX2_farthest_4 2 rfl rfl)
theorem dX2_farthest_97 : decode cX2_farthest 97 = .ok (.iload 8, 2) := dk_21 8 (dk_at dksX2_farthest_4 4 rfl rfl)
theorem dX2_farthest_99 : decode cX2_farthest 99 = .ok (.iload 6, 2) := dk_21 6 (dk_at dksX2_farthest_4 6 rfl rfl)
theorem dX2_farthest_101 : decode cX2_farthest 101 = .ok (.if_icmp .le 16, 3) := dk_164 0 16 (dk_at dksX2_farthest_4 8 rfl rfl)
theorem dX2_farthest_104 : decode cX2_farthest 104 = .ok (.aload_n 0, 1) := dk_42 (dk_at dksX2_farthest_4 11 rfl rfl)
theorem dX2_farthest_105 : decode cX2_farthest 105 = .ok (.getfield 7, 3) := dk_180 0 7 (dk_at dksX2_farthest_4 12 rfl rfl)
theorem dX2_farthest_108 : decode cX2_farthest 108 = .ok (.iload_n 3, 1) := dk_29 (dk_at dksX2_farthest_4 15 rfl rfl)
theorem dX2_farthest_109 : decode cX2_farthest 109 = .ok (.iaload, 1) := dk_46 (dk_at dksX2_farthest_4 16 rfl rfl)
theorem dX2_farthest_110 : decode cX2_farthest 110 = .ok (.sipush 9999, 3) := dk_17 39 15 (dk_at dksX2_farthest_4 17 rfl rfl)
theorem dX2_farthest_113 : decode cX2_farthest 113 = .ok (.iadd, 1) := dk_96 (dk_at dksX2_farthest_4 20 rfl rfl)
theorem dX2_farthest_114 : decode cX2_farthest 114 = .ok (.goto 5, 3) := dk_167 0 5 (dk_at dksX2_farthest_4 21 rfl rfl)
theorem dX2_farthest_117 : decode cX2_farthest 117 = .ok (.iload 5, 2) := dk_21 5 (dk_at dksX2_farthest_5 0 rfl rfl)
theorem dX2_farthest_119 : decode cX2_farthest 119 = .ok (.istore 5, 2) := dk_54 5 (dk_at dksX2_farthest_5 2 rfl rfl)
theorem dX2_farthest_121 : decode cX2_farthest 121 = .ok (.iload 8, 2) := dk_21 8 (dk_at dksX2_farthest_5 4 rfl rfl)
theorem dX2_farthest_123 : decode cX2_farthest 123 = .ok (.iload 6, 2) := dk_21 6 (dk_at dksX2_farthest_5 6 rfl rfl)
theorem dX2_farthest_125 : decode cX2_farthest 125 = .ok (.if_icmp .le 8, 3) := dk_164 0 8 (dk_at dksX2_farthest_5 8 rfl rfl)
theorem dX2_farthest_128 : decode cX2_farthest 128 = .ok (.iload 8, 2) := dk_21 8 (dk_at dksX2_farthest_5 11 rfl rfl)
theorem dX2_farthest_130 : decode cX2_farthest 130 = .ok (.goto 5, 3) := dk_167 0 5 (dk_at dksX2_farthest_5 13 rfl rfl)
theorem dX2_farthest_133 : decode cX2_farthest 133 = .ok (.iload 6, 2) := dk_21 6 (dk_at dksX2_farthest_5 16 rfl rfl)
theorem dX2_farthest_135 : decode cX2_farthest 135 = .ok (.istore 6, 2) := dk_54 6 (dk_at dksX2_farthest_5 18 rfl rfl)
theorem dX2_farthest_137 : decode cX2_farthest 137 = .ok (.iinc 7 1, 3) := dk_132 7 1 (dk_at dksX2_farthest_5 20 rfl rfl)
theorem dX2_farthest_140 : decode cX2_farthest 140 = .ok (.goto (-93), 3) := dk_167 255 163 (dk_at dksX2_farthest_6 0 rfl rfl)
theorem dX2_farthest_143 : decode cX2_farthest 143 = .ok (.aload_n 0, 1) := dk_42 (dk_at dksX2_farthest_6 3 rfl rfl)
theorem dX2_farthest_144 : decode cX2_farthest 144 = .ok (.getfield 7, 3) := dk_180 0 7 (dk_at dksX2_farthest_6 4 rfl rfl)
theorem dX2_farthest_147 : decode cX2_farthest 147 = .ok (.iload_n 3, 1) := dk_29 (dk_at dksX2_farthest_6 7 rfl rfl)
theorem dX2_farthest_148 : decode cX2_farthest 148 = .ok (.iload 4, 2) := dk_21 4 (dk_at dksX2_farthest_6 8 rfl rfl)
theorem dX2_farthest_150 : decode cX2_farthest 150 = .ok (.iastore, 1) := dk_79 (dk_at dksX2_farthest_6 10 rfl rfl)
theorem dX2_farthest_151 : decode cX2_farthest 151 = .ok (.iload 5, 2) := dk_21 5 (dk_at dksX2_farthest_6 11 rfl rfl)
theorem dX2_farthest_153 : decode cX2_farthest 153 = .ok (.ireturn, 1) := dk_172 (dk_at dksX2_farthest_6 13 rfl rfl)
abbrev cX2_alarmAt : ByteArray := prog_12_method_41_code
def yX2_alarmAt : MethodName := ⟨RX2, "alarmAt", "(II)I"⟩
def dkwX2_alarmAt_3 : List UInt8 := [180, 0, 7, 17, 0, 184, 27, 96, 46, 172, 18, 36, 172]
abbrev dktX2_alarmAt_3 : List UInt8 := dkwX2_alarmAt_3 ++ []
def dkwX2_alarmAt_2 : List UInt8 := [42, 180, 0, 7, 17, 0, 172, 27, 96, 46, 172, 42, 180, 0, 7, 17, 0, 178, 27, 96, 46, 172, 42]
abbrev dktX2_alarmAt_2 : List UInt8 := dkwX2_alarmAt_2 ++ dktX2_alarmAt_3
def dkwX2_alarmAt_1 : List UInt8 := [170, 0, 0, 0, 0, 59, 0, 0, 0, 0, 0, 0, 0, 2, 0, 0, 0, 26, 0, 0, 0, 37, 0, 0, 0, 48]
abbrev dktX2_alarmAt_1 : List UInt8 := dkwX2_alarmAt_1 ++ dktX2_alarmAt_2
def dkwX2_alarmAt_0 : List UInt8 := [27, 3, 42, 180, 0, 7, 17, 0, 171, 46, 4, 100, 184, 0, 32, 154, 0, 6, 18, 155, 172, 28]
abbrev dktX2_alarmAt_0 : List UInt8 := dkwX2_alarmAt_0 ++ dktX2_alarmAt_1
theorem dksX2_alarmAt_0 : cX2_alarmAt.data.toList.drop 0 = dktX2_alarmAt_0 := by decide +kernel
theorem dksX2_alarmAt_1 : cX2_alarmAt.data.toList.drop 22 = dktX2_alarmAt_1 := dk_seg dksX2_alarmAt_0 22 rfl rfl
theorem dksX2_alarmAt_2 : cX2_alarmAt.data.toList.drop 48 = dktX2_alarmAt_2 := dk_seg dksX2_alarmAt_1 26 rfl rfl
theorem dksX2_alarmAt_3 : cX2_alarmAt.data.toList.drop 71 = dktX2_alarmAt_3 := dk_seg dksX2_alarmAt_2 23 rfl rfl
theorem dX2_alarmAt_0 : decode cX2_alarmAt 0 = .ok (.iload_n 1, 1) := dk_27 (dk_at dksX2_alarmAt_0 0 rfl rfl)
theorem dX2_alarmAt_1 : decode cX2_alarmAt 1 = .ok (.iconst 0, 1) := dk_3 (dk_at dksX2_alarmAt_0 1 rfl rfl)
theorem dX2_alarmAt_2 : decode cX2_alarmAt 2 = .ok (.aload_n 0, 1) := dk_42 (dk_at dksX2_alarmAt_0 2 rfl rfl)
theorem dX2_alarmAt_3 : decode cX2_alarmAt 3 = .ok (.getfield 7, 3) := dk_180 0 7 (dk_at dksX2_alarmAt_0 3 rfl rfl)
theorem dX2_alarmAt_6 : decode cX2_alarmAt 6 = .ok (.sipush 171, 3) := dk_17 0 171 (dk_at dksX2_alarmAt_0 6 rfl rfl)
theorem dX2_alarmAt_9 : decode cX2_alarmAt 9 = .ok (.iaload, 1) := dk_46 (dk_at dksX2_alarmAt_0 9 rfl rfl)
theorem dX2_alarmAt_10 : decode cX2_alarmAt 10 = .ok (.iconst 1, 1) := dk_4 (dk_at dksX2_alarmAt_0 10 rfl rfl)
theorem dX2_alarmAt_11 : decode cX2_alarmAt 11 = .ok (.isub, 1) := dk_100 (dk_at dksX2_alarmAt_0 11 rfl rfl)
theorem dX2_alarmAt_12 : decode cX2_alarmAt 12 = .ok (.invokestatic 32, 3) := dk_184 0 32 (dk_at dksX2_alarmAt_0 12 rfl rfl)
theorem dX2_alarmAt_15 : decode cX2_alarmAt 15 = .ok (.ifCond .ne 6, 3) := dk_154 0 6 (dk_at dksX2_alarmAt_0 15 rfl rfl)
theorem dX2_alarmAt_18 : decode cX2_alarmAt 18 = .ok (.ldc 155, 2) := dk_18 155 (dk_at dksX2_alarmAt_0 18 rfl rfl)
theorem dX2_alarmAt_20 : decode cX2_alarmAt 20 = .ok (.ireturn, 1) := dk_172 (dk_at dksX2_alarmAt_0 20 rfl rfl)
theorem dX2_alarmAt_21 : decode cX2_alarmAt 21 = .ok (.iload_n 2, 1) := dk_28 (dk_at dksX2_alarmAt_0 21 rfl rfl)
theorem dX2_alarmAt_22 : decode cX2_alarmAt 22 = .ok (.tableswitch 59 0 2 #[26, 37, 48], 26) := by decide +kernel
theorem dX2_alarmAt_48 : decode cX2_alarmAt 48 = .ok (.aload_n 0, 1) := dk_42 (dk_at dksX2_alarmAt_2 0 rfl rfl)
theorem dX2_alarmAt_49 : decode cX2_alarmAt 49 = .ok (.getfield 7, 3) := dk_180 0 7 (dk_at dksX2_alarmAt_2 1 rfl rfl)
theorem dX2_alarmAt_52 : decode cX2_alarmAt 52 = .ok (.sipush 172, 3) := dk_17 0 172 (dk_at dksX2_alarmAt_2 4 rfl rfl)
theorem dX2_alarmAt_55 : decode cX2_alarmAt 55 = .ok (.iload_n 1, 1) := dk_27 (dk_at dksX2_alarmAt_2 7 rfl rfl)
theorem dX2_alarmAt_56 : decode cX2_alarmAt 56 = .ok (.iadd, 1) := dk_96 (dk_at dksX2_alarmAt_2 8 rfl rfl)
theorem dX2_alarmAt_57 : decode cX2_alarmAt 57 = .ok (.iaload, 1) := dk_46 (dk_at dksX2_alarmAt_2 9 rfl rfl)
theorem dX2_alarmAt_58 : decode cX2_alarmAt 58 = .ok (.ireturn, 1) := dk_172 (dk_at dksX2_alarmAt_2 10 rfl rfl)
theorem dX2_alarmAt_59 : decode cX2_alarmAt 59 = .ok (.aload_n 0, 1) := dk_42 (dk_at dksX2_alarmAt_2 11 rfl rfl)
theorem dX2_alarmAt_60 : decode cX2_alarmAt 60 = .ok (.getfield 7, 3) := dk_180 0 7 (dk_at dksX2_alarmAt_2 12 rfl rfl)
theorem dX2_alarmAt_63 : decode cX2_alarmAt 63 = .ok (.sipush 178, 3) := dk_17 0 178 (dk_at dksX2_alarmAt_2 15 rfl rfl)
theorem dX2_alarmAt_66 : decode cX2_alarmAt 66 = .ok (.iload_n 1, 1) := dk_27 (dk_at dksX2_alarmAt_2 18 rfl rfl)
theorem dX2_alarmAt_67 : decode cX2_alarmAt 67 = .ok (.iadd, 1) := dk_96 (dk_at dksX2_alarmAt_2 19 rfl rfl)
theorem dX2_alarmAt_68 : decode cX2_alarmAt 68 = .ok (.iaload, 1) := dk_46 (dk_at dksX2_alarmAt_2 20 rfl rfl)
theorem dX2_alarmAt_69 : decode cX2_alarmAt 69 = .ok (.ireturn, 1) := dk_172 (dk_at dksX2_alarmAt_2 21 rfl rfl)
theorem dX2_alarmAt_70 : decode cX2_alarmAt 70 = .ok (.aload_n 0, 1) := dk_42 (dk_at dksX2_alarmAt_2 22 rfl rfl)
theorem dX2_alarmAt_71 : decode cX2_alarmAt 71 = .ok (.getfield 7, 3) := dk_180 0 7 (dk_at dksX2_alarmAt_3 0 rfl rfl)
theorem dX2_alarmAt_74 : decode cX2_alarmAt 74 = .ok (.sipush 184, 3) := dk_17 0 184 (dk_at dksX2_alarmAt_3 3 rfl rfl)
theorem dX2_alarmAt_77 : decode cX2_alarmAt 77 = .ok (.iload_n 1, 1) := dk_27 (dk_at dksX2_alarmAt_3 6 rfl rfl)
theorem dX2_alarmAt_78 : decode cX2_alarmAt 78 = .ok (.iadd, 1) := dk_96 (dk_at dksX2_alarmAt_3 7 rfl rfl)
theorem dX2_alarmAt_79 : decode cX2_alarmAt 79 = .ok (.iaload, 1) := dk_46 (dk_at dksX2_alarmAt_3 8 rfl rfl)
theorem dX2_alarmAt_80 : decode cX2_alarmAt 80 = .ok (.ireturn, 1) := dk_172 (dk_at dksX2_alarmAt_3 9 rfl rfl)
theorem dX2_alarmAt_81 : decode cX2_alarmAt 81 = .ok (.ldc 36, 2) := dk_18 36 (dk_at dksX2_alarmAt_3 10 rfl rfl)
theorem dX2_alarmAt_83 : decode cX2_alarmAt 83 = .ok (.ireturn, 1) := dk_172 (dk_at dksX2_alarmAt_3 12 rfl rfl)
abbrev cX2_tick : ByteArray := prog_12_method_43_code
def yX2_tick : MethodName := ⟨RX2, "tick", "(I)I"⟩
def dkwX2_tick_1 : List UInt8 := [29, 27, 162, 0, 13, 42, 182, 0, 169, 132, 3, 1, 167, 255, 244, 42, 182, 0, 149, 28, 2, 130, 126, 172]
abbrev dktX2_tick_1 : List UInt8 := dkwX2_tick_1 ++ []
def dkwX2_tick_0 : List UInt8 := [27, 4, 16, 20, 184, 0, 32, 154, 0, 6, 18, 36, 172, 42, 182, 0, 166, 42, 182, 0, 149, 61, 3, 62]
abbrev dktX2_tick_0 : List UInt8 := dkwX2_tick_0 ++ dktX2_tick_1
theorem dksX2_tick_0 : cX2_tick.data.toList.drop 0 = dktX2_tick_0 := by decide +kernel
theorem dksX2_tick_1 : cX2_tick.data.toList.drop 24 = dktX2_tick_1 := dk_seg dksX2_tick_0 24 rfl rfl
theorem dX2_tick_0 : decode cX2_tick 0 = .ok (.iload_n 1, 1) := dk_27 (dk_at dksX2_tick_0 0 rfl rfl)
theorem dX2_tick_1 : decode cX2_tick 1 = .ok (.iconst 1, 1) := dk_4 (dk_at dksX2_tick_0 1 rfl rfl)
theorem dX2_tick_2 : decode cX2_tick 2 = .ok (.bipush 20, 2) := dk_16 20 (dk_at dksX2_tick_0 2 rfl rfl)
theorem dX2_tick_4 : decode cX2_tick 4 = .ok (.invokestatic 32, 3) := dk_184 0 32 (dk_at dksX2_tick_0 4 rfl rfl)
theorem dX2_tick_7 : decode cX2_tick 7 = .ok (.ifCond .ne 6, 3) := dk_154 0 6 (dk_at dksX2_tick_0 7 rfl rfl)
theorem dX2_tick_10 : decode cX2_tick 10 = .ok (.ldc 36, 2) := dk_18 36 (dk_at dksX2_tick_0 10 rfl rfl)
theorem dX2_tick_12 : decode cX2_tick 12 = .ok (.ireturn, 1) := dk_172 (dk_at dksX2_tick_0 12 rfl rfl)
theorem dX2_tick_13 : decode cX2_tick 13 = .ok (.aload_n 0, 1) := dk_42 (dk_at dksX2_tick_0 13 rfl rfl)
theorem dX2_tick_14 : decode cX2_tick 14 = .ok (.invokevirtual 166, 3) := dk_182 0 166 (dk_at dksX2_tick_0 14 rfl rfl)
theorem dX2_tick_17 : decode cX2_tick 17 = .ok (.aload_n 0, 1) := dk_42 (dk_at dksX2_tick_0 17 rfl rfl)
theorem dX2_tick_18 : decode cX2_tick 18 = .ok (.invokevirtual 149, 3) := dk_182 0 149 (dk_at dksX2_tick_0 18 rfl rfl)
theorem dX2_tick_21 : decode cX2_tick 21 = .ok (.istore_n 2, 1) := dk_61 (dk_at dksX2_tick_0 21 rfl rfl)
theorem dX2_tick_22 : decode cX2_tick 22 = .ok (.iconst 0, 1) := dk_3 (dk_at dksX2_tick_0 22 rfl rfl)
theorem dX2_tick_23 : decode cX2_tick 23 = .ok (.istore_n 3, 1) := dk_62 (dk_at dksX2_tick_0 23 rfl rfl)
theorem dX2_tick_24 : decode cX2_tick 24 = .ok (.iload_n 3, 1) := dk_29 (dk_at dksX2_tick_1 0 rfl rfl)
theorem dX2_tick_25 : decode cX2_tick 25 = .ok (.iload_n 1, 1) := dk_27 (dk_at dksX2_tick_1 1 rfl rfl)
theorem dX2_tick_26 : decode cX2_tick 26 = .ok (.if_icmp .ge 13, 3) := dk_162 0 13 (dk_at dksX2_tick_1 2 rfl rfl)
theorem dX2_tick_29 : decode cX2_tick 29 = .ok (.aload_n 0, 1) := dk_42 (dk_at dksX2_tick_1 5 rfl rfl)
theorem dX2_tick_30 : decode cX2_tick 30 = .ok (.invokevirtual 169, 3) := dk_182 0 169 (dk_at dksX2_tick_1 6 rfl rfl)
theorem dX2_tick_33 : decode cX2_tick 33 = .ok (.iinc 3 1, 3) := dk_132 3 1 (dk_at dksX2_tick_1 9 rfl rfl)
theorem dX2_tick_36 : decode cX2_tick 36 = .ok (.goto (-12), 3) := dk_167 255 244 (dk_at dksX2_tick_1 12 rfl rfl)
theorem dX2_tick_39 : decode cX2_tick 39 = .ok (.aload_n 0, 1) := dk_42 (dk_at dksX2_tick_1 15 rfl rfl)
theorem dX2_tick_40 : decode cX2_tick 40 = .ok (.invokevirtual 149, 3) := dk_182 0 149 (dk_at dksX2_tick_1 16 rfl rfl)
theorem dX2_tick_43 : decode cX2_tick 43 = .ok (.iload_n 2, 1) := dk_28 (dk_at dksX2_tick_1 19 rfl rfl)
theorem dX2_tick_44 : decode cX2_tick 44 = .ok (.iconst (-1), 1) := dk_2 (dk_at dksX2_tick_1 20 rfl rfl)
theorem dX2_tick_45 : decode cX2_tick 45 = .ok (.ixor, 1) := dk_130 (dk_at dksX2_tick_1 21 rfl rfl)
theorem dX2_tick_46 : decode cX2_tick 46 = .ok (.iand, 1) := dk_126 (dk_at dksX2_tick_1 22 rfl rfl)
theorem dX2_tick_47 : decode cX2_tick 47 = .ok (.ireturn, 1) := dk_172 (dk_at dksX2_tick_1 23 rfl rfl)
abbrev cX2_remember : ByteArray := prog_12_method_42_code
def yX2_remember : MethodName := ⟨RX2, "remember", "()V"⟩
def dkwX2_remember_3 : List UInt8 := [96, 181, 0, 88, 177]
abbrev dktX2_remember_3 : List UInt8 := dkwX2_remember_3 ++ []
def dkwX2_remember_2 : List UInt8 := [181, 0, 88, 42, 3, 17, 0, 192, 42, 180, 0, 88, 4, 96, 104, 182, 0, 85, 42, 89, 180, 0, 88, 4]
abbrev dktX2_remember_2 : List UInt8 := dkwX2_remember_2 ++ dktX2_remember_3
def dkwX2_remember_1 : List UInt8 := [104, 17, 0, 192, 27, 104, 182, 0, 85, 132, 1, 1, 167, 255, 231, 42, 89, 180, 0, 88, 4, 100]
abbrev dktX2_remember_1 : List UInt8 := dkwX2_remember_1 ++ dktX2_remember_2
def dkwX2_remember_0 : List UInt8 := [42, 180, 0, 88, 16, 16, 160, 0, 43, 4, 60, 27, 16, 16, 162, 0, 25, 42, 17, 0, 192, 27, 4, 96]
abbrev dktX2_remember_0 : List UInt8 := dkwX2_remember_0 ++ dktX2_remember_1
theorem dksX2_remember_0 : cX2_remember.data.toList.drop 0 = dktX2_remember_0 := by decide +kernel
theorem dksX2_remember_1 : cX2_remember.data.toList.drop 24 = dktX2_remember_1 := dk_seg dksX2_remember_0 24 rfl rfl
theorem dksX2_remember_2 : cX2_remember.data.toList.drop 46 = dktX2_remember_2 := dk_seg dksX2_remember_1 22 rfl rfl
theorem dksX2_remember_3 : cX2_remember.data.toList.drop 70 = dktX2_remember_3 := dk_seg dksX2_remember_2 24 rfl rfl
theorem dX2_remember_0 : decode cX2_remember 0 = .ok (.aload_n 0, 1) := dk_42 (dk_at dksX2_remember_0 0 rfl rfl)
theorem dX2_remember_1 : decode cX2_remember 1 = .ok (.getfield 88, 3) := dk_180 0 88 (dk_at dksX2_remember_0 1 rfl rfl)
theorem dX2_remember_4 : decode cX2_remember 4 = .ok (.bipush 16, 2) := dk_16 16 (dk_at dksX2_remember_0 4 rfl rfl)
theorem dX2_remember_6 : decode cX2_remember 6 = .ok (.if_icmp .ne 43, 3) := dk_160 0 43 (dk_at dksX2_remember_0 6 rfl rfl)
theorem dX2_remember_9 : decode cX2_remember 9 = .ok (.iconst 1, 1) := dk_4 (dk_at dksX2_remember_0 9 rfl rfl)
theorem dX2_remember_10 : decode cX2_remember 10 = .ok (.istore_n 1, 1) := dk_60 (dk_at dksX2_remember_0 10 rfl rfl)
theorem dX2_remember_11 : decode cX2_remember 11 = .ok (.iload_n 1, 1) := dk_27 (dk_at dksX2_remember_0 11 rfl rfl)
theorem dX2_remember_12 : decode cX2_remember 12 = .ok (.bipush 16, 2) := dk_16 16 (dk_at dksX2_remember_0 12 rfl rfl)
theorem dX2_remember_14 : decode cX2_remember 14 = .ok (.if_icmp .ge 25, 3) := dk_162 0 25 (dk_at dksX2_remember_0 14 rfl rfl)
theorem dX2_remember_17 : decode cX2_remember 17 = .ok (.aload_n 0, 1) := dk_42 (dk_at dksX2_remember_0 17 rfl rfl)
theorem dX2_remember_18 : decode cX2_remember 18 = .ok (.sipush 192, 3) := dk_17 0 192 (dk_at dksX2_remember_0 18 rfl rfl)
theorem dX2_remember_21 : decode cX2_remember 21 = .ok (.iload_n 1, 1) := dk_27 (dk_at dksX2_remember_0 21 rfl rfl)
theorem dX2_remember_22 : decode cX2_remember 22 = .ok (.iconst 1, 1) := dk_4 (dk_at dksX2_remember_0 22 rfl rfl)
theorem dX2_remember_23 : decode cX2_remember 23 = .ok (.iadd, 1) := dk_96 (dk_at dksX2_remember_0 23 rfl rfl)
theorem dX2_remember_24 : decode cX2_remember 24 = .ok (.imul, 1) := dk_104 (dk_at dksX2_remember_1 0 rfl rfl)
theorem dX2_remember_25 : decode cX2_remember 25 = .ok (.sipush 192, 3) := dk_17 0 192 (dk_at dksX2_remember_1 1 rfl rfl)
theorem dX2_remember_28 : decode cX2_remember 28 = .ok (.iload_n 1, 1) := dk_27 (dk_at dksX2_remember_1 4 rfl rfl)
theorem dX2_remember_29 : decode cX2_remember 29 = .ok (.imul, 1) := dk_104 (dk_at dksX2_remember_1 5 rfl rfl)
theorem dX2_remember_30 : decode cX2_remember 30 = .ok (.invokevirtual 85, 3) := dk_182 0 85 (dk_at dksX2_remember_1 6 rfl rfl)
theorem dX2_remember_33 : decode cX2_remember 33 = .ok (.iinc 1 1, 3) := dk_132 1 1 (dk_at dksX2_remember_1 9 rfl rfl)
theorem dX2_remember_36 : decode cX2_remember 36 = .ok (.goto (-25), 3) := dk_167 255 231 (dk_at dksX2_remember_1 12 rfl rfl)
theorem dX2_remember_39 : decode cX2_remember 39 = .ok (.aload_n 0, 1) := dk_42 (dk_at dksX2_remember_1 15 rfl rfl)
theorem dX2_remember_40 : decode cX2_remember 40 = .ok (.dup, 1) := dk_89 (dk_at dksX2_remember_1 16 rfl rfl)
theorem dX2_remember_41 : decode cX2_remember 41 = .ok (.getfield 88, 3) := dk_180 0 88 (dk_at dksX2_remember_1 17 rfl rfl)
theorem dX2_remember_44 : decode cX2_remember 44 = .ok (.iconst 1, 1) := dk_4 (dk_at dksX2_remember_1 20 rfl rfl)
theorem dX2_remember_45 : decode cX2_remember 45 = .ok (.isub, 1) := dk_100 (dk_at dksX2_remember_1 21 rfl rfl)
theorem dX2_remember_46 : decode cX2_remember 46 = .ok (.putfield 88, 3) := dk_181 0 88 (dk_at dksX2_remember_2 0 rfl rfl)
theorem dX2_remember_49 : decode cX2_remember 49 = .ok (.aload_n 0, 1) := dk_42 (dk_at dksX2_remember_2 3 rfl rfl)
theorem dX2_remember_50 : decode cX2_remember 50 = .ok (.iconst 0, 1) := dk_3 (dk_at dksX2_remember_2 4 rfl rfl)
theorem dX2_remember_51 : decode cX2_remember 51 = .ok (.sipush 192, 3) := dk_17 0 192 (dk_at dksX2_remember_2 5 rfl rfl)
theorem dX2_remember_54 : decode cX2_remember 54 = .ok (.aload_n 0, 1) := dk_42 (dk_at dksX2_remember_2 8 rfl rfl)
theorem dX2_remember_55 : decode cX2_remember 55 = .ok (.getfield 88, 3) := dk_180 0 88 (dk_at dksX2_remember_2 9 rfl rfl)
theorem dX2_remember_58 : decode cX2_remember 58 = .ok (.iconst 1, 1) := dk_4 (dk_at dksX2_remember_2 12 rfl rfl)
theorem dX2_remember_59 : decode cX2_remember 59 = .ok (.iadd, 1) := dk_96 (dk_at dksX2_remember_2 13 rfl rfl)
theorem dX2_remember_60 : decode cX2_remember 60 = .ok (.imul, 1) := dk_104 (dk_at dksX2_remember_2 14 rfl rfl)
theorem dX2_remember_61 : decode cX2_remember 61 = .ok (.invokevirtual 85, 3) := dk_182 0 85 (dk_at dksX2_remember_2 15 rfl rfl)
theorem dX2_remember_64 : decode cX2_remember 64 = .ok (.aload_n 0, 1) := dk_42 (dk_at dksX2_remember_2 18 rfl rfl)
theorem dX2_remember_65 : decode cX2_remember 65 = .ok (.dup, 1) := dk_89 (dk_at dksX2_remember_2 19 rfl rfl)
theorem dX2_remember_66 : decode cX2_remember 66 = .ok (.getfield 88, 3) := dk_180 0 88 (dk_at dksX2_remember_2 20 rfl rfl)
theorem dX2_remember_69 : decode cX2_remember 69 = .ok (.iconst 1, 1) := dk_4 (dk_at dksX2_remember_2 23 rfl rfl)
theorem dX2_remember_70 : decode cX2_remember 70 = .ok (.iadd, 1) := dk_96 (dk_at dksX2_remember_3 0 rfl rfl)
theorem dX2_remember_71 : decode cX2_remember 71 = .ok (.putfield 88, 3) := dk_181 0 88 (dk_at dksX2_remember_3 1 rfl rfl)
theorem dX2_remember_74 : decode cX2_remember 74 = .ok (.return_, 1) := dk_177 (dk_at dksX2_remember_3 4 rfl rfl)
abbrev cX2_tickOne : ByteArray := prog_12_method_27_code
def yX2_tickOne : MethodName := ⟨RX2, "tickOne", "()V"⟩
def dkwX2_tickOne_10 : List UInt8 := [96, 46, 79, 132, 1, 1, 167, 255, 156, 177]
abbrev dktX2_tickOne_10 : List UInt8 := dkwX2_tickOne_10 ++ []
def dkwX2_tickOne_9 : List UInt8 := [180, 0, 7, 17, 0, 184, 27, 96, 28, 153, 0, 7, 4, 167, 0, 13, 42, 180, 0, 7, 17, 0, 184, 27]
abbrev dktX2_tickOne_9 : List UInt8 := dkwX2_tickOne_9 ++ dktX2_tickOne_10
def dkwX2_tickOne_8 : List UInt8 := [96, 46, 96, 46, 42, 180, 0, 7, 17, 0, 178, 27, 96, 46, 161, 0, 7, 4, 167, 0, 4, 3, 61, 42]
abbrev dktX2_tickOne_8 : List UInt8 := dkwX2_tickOne_8 ++ dktX2_tickOne_9
def dkwX2_tickOne_7 : List UInt8 := [17, 0, 172, 27, 96, 46, 96, 46, 154, 0, 37, 42, 180, 0, 7, 6, 42, 180, 0, 7, 17, 0, 172, 27]
abbrev dktX2_tickOne_7 : List UInt8 := dkwX2_tickOne_7 ++ dktX2_tickOne_8
def dkwX2_tickOne_6 : List UInt8 := [3, 60, 27, 42, 180, 0, 7, 17, 0, 171, 46, 162, 0, 94, 42, 180, 0, 7, 16, 35, 42, 180, 0, 7]
abbrev dktX2_tickOne_6 : List UInt8 := dkwX2_tickOne_6 ++ dktX2_tickOne_7
def dkwX2_tickOne_5 : List UInt8 := [96, 92, 46, 28, 100, 79, 132, 1, 1, 167, 255, 130, 42, 180, 0, 7, 17, 0, 190, 92, 46, 4, 96, 79]
abbrev dktX2_tickOne_5 : List UInt8 := dkwX2_tickOne_5 ++ dktX2_tickOne_6
def dkwX2_tickOne_4 : List UInt8 := [27, 96, 92, 46, 42, 180, 0, 7, 16, 11, 27, 96, 46, 28, 96, 96, 79, 42, 180, 0, 7, 16, 19, 27]
abbrev dktX2_tickOne_4 : List UInt8 := dkwX2_tickOne_4 ++ dktX2_tickOne_5
def dkwX2_tickOne_3 : List UInt8 := [180, 0, 7, 5, 46, 116, 167, 0, 12, 42, 180, 0, 7, 16, 19, 27, 96, 46, 61, 42, 180, 0, 7, 6]
abbrev dktX2_tickOne_3 : List UInt8 := dkwX2_tickOne_3 ++ dktX2_tickOne_4
def dkwX2_tickOne_2 : List UInt8 := [167, 0, 41, 42, 180, 0, 7, 16, 19, 27, 96, 46, 42, 180, 0, 7, 5, 46, 116, 162, 0, 13, 42]
abbrev dktX2_tickOne_2 : List UInt8 := dkwX2_tickOne_2 ++ dktX2_tickOne_3
def dkwX2_tickOne_1 : List UInt8 := [42, 180, 0, 7, 16, 19, 27, 96, 46, 42, 180, 0, 7, 5, 46, 164, 0, 12, 42, 180, 0, 7, 5, 46]
abbrev dktX2_tickOne_1 : List UInt8 := dkwX2_tickOne_1 ++ dktX2_tickOne_2
def dkwX2_tickOne_0 : List UInt8 := [3, 60, 27, 42, 180, 0, 7, 3, 46, 162, 0, 122, 42, 180, 0, 7, 16, 35, 27, 96, 46, 154, 0, 104]
abbrev dktX2_tickOne_0 : List UInt8 := dkwX2_tickOne_0 ++ dktX2_tickOne_1
theorem dksX2_tickOne_0 : cX2_tickOne.data.toList.drop 0 = dktX2_tickOne_0 := by decide +kernel
theorem dksX2_tickOne_1 : cX2_tickOne.data.toList.drop 24 = dktX2_tickOne_1 := dk_seg dksX2_tickOne_0 24 rfl rfl
theorem dksX2_tickOne_2 : cX2_tickOne.data.toList.drop 48 = dktX2_tickOne_2 := dk_seg dksX2_tickOne_1 24 rfl rfl
theorem dksX2_tickOne_3 : cX2_tickOne.data.toList.drop 71 = dktX2_tickOne_3 := dk_seg dksX2_tickOne_2 23 rfl rfl
theorem dksX2_tickOne_4 : cX2_tickOne.data.toList.drop 95 = dktX2_tickOne_4 := dk_seg dksX2_tickOne_3 24 rfl rfl
theorem dksX2_tickOne_5 : cX2_tickOne.data.toList.drop 119 = dktX2_tickOne_5 := dk_seg dksX2_tickOne_4 24 rfl rfl
theorem dksX2_tickOne_6 : cX2_tickOne.data.toList.drop 143 = dktX2_tickOne_6 := dk_seg dksX2_tickOne_5 24 rfl rfl
theorem dksX2_tickOne_7 : cX2_tickOne.data.toList.drop 167 = dktX2_tickOne_7 := dk_seg dksX2_tickOne_6 24 rfl rfl
theorem dksX2_tickOne_8 : cX2_tickOne.data.toList.drop 191 = dktX2_tickOne_8 := dk_seg dksX2_tickOne_7 24 rfl rfl
theorem dksX2_tickOne_9 : cX2_tickOne.data.toList.drop 215 = dktX2_tickOne_9 := dk_seg dksX2_tickOne_8 24 rfl rfl
theorem dksX2_tickOne_10 : cX2_tickOne.data.toList.drop 239 = dktX2_tickOne_10 := dk_seg dksX2_tickOne_9 24 rfl rfl
theorem dX2_tickOne_0 : decode cX2_tickOne 0 = .ok (.iconst 0, 1) := dk_3 (dk_at dksX2_tickOne_0 0 rfl rfl)
theorem dX2_tickOne_1 : decode cX2_tickOne 1 = .ok (.istore_n 1, 1) := dk_60 (dk_at dksX2_tickOne_0 1 rfl rfl)
theorem dX2_tickOne_2 : decode cX2_tickOne 2 = .ok (.iload_n 1, 1) := dk_27 (dk_at dksX2_tickOne_0 2 rfl rfl)
theorem dX2_tickOne_3 : decode cX2_tickOne 3 = .ok (.aload_n 0, 1) := dk_42 (dk_at dksX2_tickOne_0 3 rfl rfl)
theorem dX2_tickOne_4 : decode cX2_tickOne 4 = .ok (.getfield 7, 3) := dk_180 0 7 (dk_at dksX2_tickOne_0 4 rfl rfl)
theorem dX2_tickOne_7 : decode cX2_tickOne 7 = .ok (.iconst 0, 1) := dk_3 (dk_at dksX2_tickOne_0 7 rfl rfl)
theorem dX2_tickOne_8 : decode cX2_tickOne 8 = .ok (.iaload, 1) := dk_46 (dk_at dksX2_tickOne_0 8 rfl rfl)
theorem dX2_tickOne_9 : decode cX2_tickOne 9 = .ok (.if_icmp .ge 122, 3) := dk_162 0 122 (dk_at dksX2_tickOne_0 9 rfl rfl)
theorem dX2_tickOne_12 : decode cX2_tickOne 12 = .ok (.aload_n 0, 1) := dk_42 (dk_at dksX2_tickOne_0 12 rfl rfl)
theorem dX2_tickOne_13 : decode cX2_tickOne 13 = .ok (.getfield 7, 3) := dk_180 0 7 (dk_at dksX2_tickOne_0 13 rfl rfl)
theorem dX2_tickOne_16 : decode cX2_tickOne 16 = .ok (.bipush 35, 2) := dk_16 35 (dk_at dksX2_tickOne_0 16 rfl rfl)
theorem dX2_tickOne_18 : decode cX2_tickOne 18 = .ok (.iload_n 1, 1) := dk_27 (dk_at dksX2_tickOne_0 18 rfl rfl)
theorem dX2_tickOne_19 : decode cX2_tickOne 19 = .ok (.iadd, 1) := dk_96 (dk_at dksX2_tickOne_0 19 rfl rfl)
theorem dX2_tickOne_20 : decode cX2_tickOne 20 = .ok (.iaload, 1) := dk_46 (dk_at dksX2_tickOne_0 20 rfl rfl)
theorem dX2_tickOne_21 : decode cX2_tickOne 21 = .ok (.ifCond .ne 104, 3) := dk_154 0 104 (dk_at dksX2_tickOne_0 21 rfl rfl)
theorem dX2_tickOne_24 : decode cX2_tickOne 24 = .ok (.aload_n 0, 1) := dk_42 (dk_at dksX2_tickOne_1 0 rfl rfl)
theorem dX2_tickOne_25 : decode cX2_tickOne 25 = .ok (.getfield 7, 3) := dk_180 0 7 (dk_at dksX2_tickOne_1 1 rfl rfl)
theorem dX2_tickOne_28 : decode cX2_tickOne 28 = .ok (.bipush 19, 2) := dk_16 19 (dk_at dksX2_tickOne_1 4 rfl rfl)
theorem dX2_tickOne_30 : decode cX2_tickOne 30 = .ok (.iload_n 1, 1) := dk_27 (dk_at dksX2_tickOne_1 6 rfl rfl)
theorem dX2_tickOne_31 : decode cX2_tickOne 31 = .ok (.iadd, 1) := dk_96 (dk_at dksX2_tickOne_1 7 rfl rfl)
theorem dX2_tickOne_32 : decode cX2_tickOne 32 = .ok (.iaload, 1) := dk_46 (dk_at dksX2_tickOne_1 8 rfl rfl)
theorem dX2_tickOne_33 : decode cX2_tickOne 33 = .ok (.aload_n 0, 1) := dk_42 (dk_at dksX2_tickOne_1 9 rfl rfl)
theorem dX2_tickOne_34 : decode cX2_tickOne 34 = .ok (.getfield 7, 3) := dk_180 0 7 (dk_at dksX2_tickOne_1 10 rfl rfl)
theorem dX2_tickOne_37 : decode cX2_tickOne 37 = .ok (.iconst 2, 1) := dk_5 (dk_at dksX2_tickOne_1 13 rfl rfl)
theorem dX2_tickOne_38 : decode cX2_tickOne 38 = .ok (.iaload, 1) := dk_46 (dk_at dksX2_tickOne_1 14 rfl rfl)
theorem dX2_tickOne_39 : decode cX2_tickOne 39 = .ok (.if_icmp .le 12, 3) := dk_164 0 12 (dk_at dksX2_tickOne_1 15 rfl rfl)
theorem dX2_tickOne_42 : decode cX2_tickOne 42 = .ok (.aload_n 0, 1) := dk_42 (dk_at dksX2_tickOne_1 18 rfl rfl)
theorem dX2_tickOne_43 : decode cX2_tickOne 43 = .ok (.getfield 7, 3) := dk_180 0 7 (dk_at dksX2_tickOne_1 19 rfl rfl)
theorem dX2_tickOne_46 : decode cX2_tickOne 46 = .ok (.iconst 2, 1) := dk_5 (dk_at dksX2_tickOne_1 22 rfl rfl)
theorem dX2_tickOne_47 : decode cX2_tickOne 47 = .ok (.iaload, 1) := dk_46 (dk_at dksX2_tickOne_1 23 rfl rfl)
theorem dX2_tickOne_48 : decode cX2_tickOne 48 = .ok (.goto 41, 3) := dk_167 0 41 (dk_at dksX2_tickOne_2 0 rfl rfl)
theorem dX2_tickOne_51 : decode cX2_tickOne 51 = .ok (.aload_n 0, 1) := dk_42 (dk_at dksX2_tickOne_2 3 rfl rfl)
theorem dX2_tickOne_52 : decode cX2_tickOne 52 = .ok (.getfield 7, 3) := dk_180 0 7 (dk_at dksX2_tickOne_2 4 rfl rfl)
theorem dX2_tickOne_55 : decode cX2_tickOne 55 = .ok (.bipush 19, 2) := dk_16 19 (dk_at dksX2_tickOne_2 7 rfl rfl)
theorem dX2_tickOne_57 : decode cX2_tickOne 57 = .ok (.iload_n 1, 1) := dk_27 (dk_at dksX2_tickOne_2 9 rfl rfl)
theorem dX2_tickOne_58 : decode cX2_tickOne 58 = .ok (.iadd, 1) := dk_96 (dk_at dksX2_tickOne_2 10 rfl rfl)
theorem dX2_tickOne_59 : decode cX2_tickOne 59 = .ok (.iaload, 1) := dk_46 (dk_at dksX2_tickOne_2 11 rfl rfl)
theorem dX2_tickOne_60 : decode cX2_tickOne 60 = .ok (.aload_n 0, 1) := dk_42 (dk_at dksX2_tickOne_2 12 rfl rfl)
theorem dX2_tickOne_61 : decode cX2_tickOne 61 = .ok (.getfield 7, 3) := dk_180 0 7 (dk_at dksX2_tickOne_2 13 rfl rfl)
theorem dX2_tickOne_64 : decode cX2_tickOne 64 = .ok (.iconst 2, 1) := dk_5 (dk_at dksX2_tickOne_2 16 rfl rfl)
theorem dX2_tickOne_65 : decode cX2_tickOne 65 = .ok (.iaload, 1) := dk_46 (dk_at dksX2_tickOne_2 17 rfl rfl)
theorem dX2_tickOne_66 : decode cX2_tickOne 66 = .ok (.ineg, 1) := dk_116 (dk_at dksX2_tickOne_2 18 rfl rfl)
theorem dX2_tickOne_67 : decode cX2_tickOne 67 = .ok (.if_icmp .ge 13, 3) := dk_162 0 13 (dk_at dksX2_tickOne_2 19 rfl rfl)
theorem dX2_tickOne_70 : decode cX2_tickOne 70 = .ok (.aload_n 0, 1) := dk_42 (dk_at dksX2_tickOne_2 22 rfl rfl)
theorem dX2_tickOne_71 : decode cX2_tickOne 71 = .ok (.getfield 7, 3) := dk_180 0 7 (dk_at dksX2_tickOne_3 0 rfl rfl)
theorem dX2_tickOne_74 : decode cX2_tickOne 74 = .ok (.iconst 2, 1) := dk_5 (dk_at dksX2_tickOne_3 3 rfl rfl)
theorem dX2_tickOne_75 : decode cX2_tickOne 75 = .ok (.iaload, 1) := dk_46 (dk_at dksX2_tickOne_3 4 rfl rfl)
theorem dX2_tickOne_76 : decode cX2_tickOne 76 = .ok (.ineg, 1) := dk_116 (dk_at dksX2_tickOne_3 5 rfl rfl)
theorem dX2_tickOne_77 : decode cX2_tickOne 77 = .ok (.goto 12, 3) := dk_167 0 12 (dk_at dksX2_tickOne_3 6 rfl rfl)
theorem dX2_tickOne_80 : decode cX2_tickOne 80 = .ok (.aload_n 0, 1) := dk_42 (dk_at dksX2_tickOne_3 9 rfl rfl)
theorem dX2_tickOne_81 : decode cX2_tickOne 81 = .ok (.getfield 7, 3) := dk_180 0 7 (dk_at dksX2_tickOne_3 10 rfl rfl)
theorem dX2_tickOne_84 : decode cX2_tickOne 84 = .ok (.bipush 19, 2) := dk_16 19 (dk_at dksX2_tickOne_3 13 rfl rfl)
theorem dX2_tickOne_86 : decode cX2_tickOne 86 = .ok (.iload_n 1, 1) := dk_27 (dk_at dksX2_tickOne_3 15 rfl rfl)
theorem dX2_tickOne_87 : decode cX2_tickOne 87 = .ok (.iadd, 1) := dk_96 (dk_at dksX2_tickOne_3 16 rfl rfl)
theorem dX2_tickOne_88 : decode cX2_tickOne 88 = .ok (.iaload, 1) := dk_46 (dk_at dksX2_tickOne_3 17 rfl rfl)
theorem dX2_tickOne_89 : decode cX2_tickOne 89 = .ok (.istore_n 2, 1) := dk_61 (dk_at dksX2_tickOne_3 18 rfl rfl)
theorem dX2_tickOne_90 : decode cX2_tickOne 90 = .ok (.aload_n 0, 1) := dk_42 (dk_at dksX2_tickOne_3 19 rfl rfl)
theorem dX2_tickOne_91 : decode cX2_tickOne 91 = .ok (.getfield 7, 3) := dk_180 0 7 (dk_at dksX2_tickOne_3 20 rfl rfl)
theorem dX2_tickOne_94 : decode cX2_tickOne 94 = .ok (.iconst 3, 1) := dk_6 (dk_at dksX2_tickOne_3 23 rfl rfl)
theorem dX2_tickOne_95 : decode cX2_tickOne 95 = .ok (.iload_n 1, 1) := dk_27 (dk_at dksX2_tickOne_4 0 rfl rfl)
theorem dX2_tickOne_96 : decode cX2_tickOne 96 = .ok (.iadd, 1) := dk_96 (dk_at dksX2_tickOne_4 1 rfl rfl)
theorem dX2_tickOne_97 : decode cX2_tickOne 97 = .ok (.dup2, 1) := dk_92 (dk_at dksX2_tickOne_4 2 rfl rfl)
theorem dX2_tickOne_98 : decode cX2_tickOne 98 = .ok (.iaload, 1) := dk_46 (dk_at dksX2_tickOne_4 3 rfl rfl)
theorem dX2_tickOne_99 : decode cX2_tickOne 99 = .ok (.aload_n 0, 1) := dk_42 (dk_at dksX2_tickOne_4 4 rfl rfl)
theorem dX2_tickOne_100 : decode cX2_tickOne 100 = .ok (.getfield 7, 3) := dk_180 0 7 (dk_at dksX2_tickOne_4 5 rfl rfl)
theorem dX2_tickOne_103 : decode cX2_tickOne 103 = .ok (.bipush 11, 2) := dk_16 11 (dk_at dksX2_tickOne_4 8 rfl rfl)
theorem dX2_tickOne_105 : decode cX2_tickOne 105 = .ok (.iload_n 1, 1) := dk_27 (dk_at dksX2_tickOne_4 10 rfl rfl)
theorem dX2_tickOne_106 : decode cX2_tickOne 106 = .ok (.iadd, 1) := dk_96 (dk_at dksX2_tickOne_4 11 rfl rfl)
theorem dX2_tickOne_107 : decode cX2_tickOne 107 = .ok (.iaload, 1) := dk_46 (dk_at dksX2_tickOne_4 12 rfl rfl)
theorem dX2_tickOne_108 : decode cX2_tickOne 108 = .ok (.iload_n 2, 1) := dk_28 (dk_at dksX2_tickOne_4 13 rfl rfl)
theorem dX2_tickOne_109 : decode cX2_tickOne 109 = .ok (.iadd, 1) := dk_96 (dk_at dksX2_tickOne_4 14 rfl rfl)
theorem dX2_tickOne_110 : decode cX2_tickOne 110 = .ok (.iadd, 1) := dk_96 (dk_at dksX2_tickOne_4 15 rfl rfl)
theorem dX2_tickOne_111 : decode cX2_tickOne 111 = .ok (.iastore, 1) := dk_79 (dk_at dksX2_tickOne_4 16 rfl rfl)
theorem dX2_tickOne_112 : decode cX2_tickOne 112 = .ok (.aload_n 0, 1) := dk_42 (dk_at dksX2_tickOne_4 17 rfl rfl)
theorem dX2_tickOne_113 : decode cX2_tickOne 113 = .ok (.getfield 7, 3) := dk_180 0 7 (dk_at dksX2_tickOne_4 18 rfl rfl)
theorem dX2_tickOne_116 : decode cX2_tickOne 116 = .ok (.bipush 19, 2) := dk_16 19 (dk_at dksX2_tickOne_4 21 rfl rfl)
theorem dX2_tickOne_118 : decode cX2_tickOne 118 = .ok (.iload_n 1, 1) := dk_27 (dk_at dksX2_tickOne_4 23 rfl rfl)
theorem dX2_tickOne_119 : decode cX2_tickOne 119 = .ok (.iadd, 1) := dk_96 (dk_at dksX2_tickOne_5 0 rfl rfl)
theorem dX2_tickOne_120 : decode cX2_tickOne 120 = .ok (.dup2, 1) := dk_92 (dk_at dksX2_tickOne_5 1 rfl rfl)
theorem dX2_tickOne_121 : decode cX2_tickOne 121 = .ok (.iaload, 1) := dk_46 (dk_at dksX2_tickOne_5 2 rfl rfl)
theorem dX2_tickOne_122 : decode cX2_tickOne 122 = .ok (.iload_n 2, 1) := dk_28 (dk_at dksX2_tickOne_5 3 rfl rfl)
theorem dX2_tickOne_123 : decode cX2_tickOne 123 = .ok (.isub, 1) := dk_100 (dk_at dksX2_tickOne_5 4 rfl rfl)
theorem dX2_tickOne_124 : decode cX2_tickOne 124 = .ok (.iastore, 1) := dk_79 (dk_at dksX2_tickOne_5 5 rfl rfl)
theorem dX2_tickOne_125 : decode cX2_tickOne 125 = .ok (.iinc 1 1, 3) := dk_132 1 1 (dk_at dksX2_tickOne_5 6 rfl rfl)
theorem dX2_tickOne_128 : decode cX2_tickOne 128 = .ok (.goto (-126), 3) := dk_167 255 130 (dk_at dksX2_tickOne_5 9 rfl rfl)
theorem dX2_tickOne_131 : decode cX2_tickOne 131 = .ok (.aload_n 0, 1) := dk_42 (dk_at dksX2_tickOne_5 12 rfl rfl)
theorem dX2_tickOne_132 : decode cX2_tickOne 132 = .ok (.getfield 7, 3) := dk_180 0 7 (dk_at dksX2_tickOne_5 13 rfl rfl)
theorem dX2_tickOne_135 : decode cX2_tickOne 135 = .ok (.sipush 190, 3) := dk_17 0 190 (dk_at dksX2_tickOne_5 16 rfl rfl)
theorem dX2_tickOne_138 : decode cX2_tickOne 138 = .ok (.dup2, 1) := dk_92 (dk_at dksX2_tickOne_5 19 rfl rfl)
theorem dX2_tickOne_139 : decode cX2_tickOne 139 = .ok (.iaload, 1) := dk_46 (dk_at dksX2_tickOne_5 20 rfl rfl)
theorem dX2_tickOne_140 : decode cX2_tickOne 140 = .ok (.iconst 1, 1) := dk_4 (dk_at dksX2_tickOne_5 21 rfl rfl)
theorem dX2_tickOne_141 : decode cX2_tickOne 141 = .ok (.iadd, 1) := dk_96 (dk_at dksX2_tickOne_5 22 rfl rfl)
theorem dX2_tickOne_142 : decode cX2_tickOne 142 = .ok (.iastore, 1) := dk_79 (dk_at dksX2_tickOne_5 23 rfl rfl)
theorem dX2_tickOne_143 : decode cX2_tickOne 143 = .ok (.iconst 0, 1) := dk_3 (dk_at dksX2_tickOne_6 0 rfl rfl)
theorem dX2_tickOne_144 : decode cX2_tickOne 144 = .ok (.istore_n 1, 1) := dk_60 (dk_at dksX2_tickOne_6 1 rfl rfl)
theorem dX2_tickOne_145 : decode cX2_tickOne 145 = .ok (.iload_n 1, 1) := dk_27 (dk_at dksX2_tickOne_6 2 rfl rfl)
theorem dX2_tickOne_146 : decode cX2_tickOne 146 = .ok (.aload_n 0, 1) := dk_42 (dk_at dksX2_tickOne_6 3 rfl rfl)
theorem dX2_tickOne_147 : decode cX2_tickOne 147 = .ok (.getfield 7, 3) := dk_180 0 7 (dk_at dksX2_tickOne_6 4 rfl rfl)
theorem dX2_tickOne_150 : decode cX2_tickOne 150 = .ok (.sipush 171, 3) := dk_17 0 171 (dk_at dksX2_tickOne_6 7 rfl rfl)
theorem dX2_tickOne_153 : decode cX2_tickOne 153 = .ok (.iaload, 1) := dk_46 (dk_at dksX2_tickOne_6 10 rfl rfl)
theorem dX2_tickOne_154 : decode cX2_tickOne 154 = .ok (.if_icmp .ge 94, 3) := dk_162 0 94 (dk_at dksX2_tickOne_6 11 rfl rfl)
theorem dX2_tickOne_157 : decode cX2_tickOne 157 = .ok (.aload_n 0, 1) := dk_42 (dk_at dksX2_tickOne_6 14 rfl rfl)
theorem dX2_tickOne_158 : decode cX2_tickOne 158 = .ok (.getfield 7, 3) := dk_180 0 7 (dk_at dksX2_tickOne_6 15 rfl rfl)
theorem dX2_tickOne_161 : decode cX2_tickOne 161 = .ok (.bipush 35, 2) := dk_16 35 (dk_at dksX2_tickOne_6 18 rfl rfl)
theorem dX2_tickOne_163 : decode cX2_tickOne 163 = .ok (.aload_n 0, 1) := dk_42 (dk_at dksX2_tickOne_6 20 rfl rfl)
theorem dX2_tickOne_164 : decode cX2_tickOne 164 = .ok (.getfield 7, 3) := dk_180 0 7 (dk_at dksX2_tickOne_6 21 rfl rfl)
theorem dX2_tickOne_167 : decode cX2_tickOne 167 = .ok (.sipush 172, 3) := dk_17 0 172 (dk_at dksX2_tickOne_7 0 rfl rfl)
theorem dX2_tickOne_170 : decode cX2_tickOne 170 = .ok (.iload_n 1, 1) := dk_27 (dk_at dksX2_tickOne_7 3 rfl rfl)
theorem dX2_tickOne_171 : decode cX2_tickOne 171 = .ok (.iadd, 1) := dk_96 (dk_at dksX2_tickOne_7 4 rfl rfl)
theorem dX2_tickOne_172 : decode cX2_tickOne 172 = .ok (.iaload, 1) := dk_46 (dk_at dksX2_tickOne_7 5 rfl rfl)
theorem dX2_tickOne_173 : decode cX2_tickOne 173 = .ok (.iadd, 1) := dk_96 (dk_at dksX2_tickOne_7 6 rfl rfl)
theorem dX2_tickOne_174 : decode cX2_tickOne 174 = .ok (.iaload, 1) := dk_46 (dk_at dksX2_tickOne_7 7 rfl rfl)
theorem dX2_tickOne_175 : decode cX2_tickOne 175 = .ok (.ifCond .ne 37, 3) := dk_154 0 37 (dk_at dksX2_tickOne_7 8 rfl rfl)
theorem dX2_tickOne_178 : decode cX2_tickOne 178 = .ok (.aload_n 0, 1) := dk_42 (dk_at dksX2_tickOne_7 11 rfl rfl)
theorem dX2_tickOne_179 : decode cX2_tickOne 179 = .ok (.getfield 7, 3) := dk_180 0 7 (dk_at dksX2_tickOne_7 12 rfl rfl)
theorem dX2_tickOne_182 : decode cX2_tickOne 182 = .ok (.iconst 3, 1) := dk_6 (dk_at dksX2_tickOne_7 15 rfl rfl)
theorem dX2_tickOne_183 : decode cX2_tickOne 183 = .ok (.aload_n 0, 1) := dk_42 (dk_at dksX2_tickOne_7 16 rfl rfl)
theorem dX2_tickOne_184 : decode cX2_tickOne 184 = .ok (.getfield 7, 3) := dk_180 0 7 (dk_at dksX2_tickOne_7 17 rfl rfl)
theorem dX2_tickOne_187 : decode cX2_tickOne 187 = .ok (.sipush 172, 3) := dk_17 0 172 (dk_at dksX2_tickOne_7 20 rfl rfl)
theorem dX2_tickOne_190 : decode cX2_tickOne 190 = .ok (.iload_n 1, 1) := dk_27 (dk_at dksX2_tickOne_7 23 rfl rfl)
theorem dX2_tickOne_191 : decode cX2_tickOne 191 = .ok (.iadd, 1) := dk_96 (dk_at dksX2_tickOne_8 0 rfl rfl)
theorem dX2_tickOne_192 : decode cX2_tickOne 192 = .ok (.iaload, 1) := dk_46 (dk_at dksX2_tickOne_8 1 rfl rfl)
theorem dX2_tickOne_193 : decode cX2_tickOne 193 = .ok (.iadd, 1) := dk_96 (dk_at dksX2_tickOne_8 2 rfl rfl)
theorem dX2_tickOne_194 : decode cX2_tickOne 194 = .ok (.iaload, 1) := dk_46 (dk_at dksX2_tickOne_8 3 rfl rfl)
theorem dX2_tickOne_195 : decode cX2_tickOne 195 = .ok (.aload_n 0, 1) := dk_42 (dk_at dksX2_tickOne_8 4 rfl rfl)
theorem dX2_tickOne_196 : decode cX2_tickOne 196 = .ok (.getfield 7, 3) := dk_180 0 7 (dk_at dksX2_tickOne_8 5 rfl rfl)
theorem dX2_tickOne_199 : decode cX2_tickOne 199 = .ok (.sipush 178, 3) := dk_17 0 178 (dk_at dksX2_tickOne_8 8 rfl rfl)
theorem dX2_tickOne_202 : decode cX2_tickOne 202 = .ok (.iload_n 1, 1) := dk_27 (dk_at dksX2_tickOne_8 11 rfl rfl)
theorem dX2_tickOne_203 : decode cX2_tickOne 203 = .ok (.iadd, 1) := dk_96 (dk_at dksX2_tickOne_8 12 rfl rfl)
theorem dX2_tickOne_204 : decode cX2_tickOne 204 = .ok (.iaload, 1) := dk_46 (dk_at dksX2_tickOne_8 13 rfl rfl)
theorem dX2_tickOne_205 : decode cX2_tickOne 205 = .ok (.if_icmp .lt 7, 3) := dk_161 0 7 (dk_at dksX2_tickOne_8 14 rfl rfl)
theorem dX2_tickOne_208 : decode cX2_tickOne 208 = .ok (.iconst 1, 1) := dk_4 (dk_at dksX2_tickOne_8 17 rfl rfl)
theorem dX2_tickOne_209 : decode cX2_tickOne 209 = .ok (.goto 4, 3) := dk_167 0 4 (dk_at dksX2_tickOne_8 18 rfl rfl)
theorem dX2_tickOne_212 : decode cX2_tickOne 212 = .ok (.iconst 0, 1) := dk_3 (dk_at dksX2_tickOne_8 21 rfl rfl)
theorem dX2_tickOne_213 : decode cX2_tickOne 213 = .ok (.istore_n 2, 1) := dk_61 (dk_at dksX2_tickOne_8 22 rfl rfl)
theorem dX2_tickOne_214 : decode cX2_tickOne 214 = .ok (.aload_n 0, 1) := dk_42 (dk_at dksX2_tickOne_8 23 rfl rfl)
theorem dX2_tickOne_215 : decode cX2_tickOne 215 = .ok (.getfield 7, 3) := dk_180 0 7 (dk_at dksX2_tickOne_9 0 rfl rfl)
theorem dX2_tickOne_218 : decode cX2_tickOne 218 = .ok (.sipush 184, 3) := dk_17 0 184 (dk_at dksX2_tickOne_9 3 rfl rfl)
theorem dX2_tickOne_221 : decode cX2_tickOne 221 = .ok (.iload_n 1, 1) := dk_27 (dk_at dksX2_tickOne_9 6 rfl rfl)
theorem dX2_tickOne_222 : decode cX2_tickOne 222 = .ok (.iadd, 1) := dk_96 (dk_at dksX2_tickOne_9 7 rfl rfl)
theorem dX2_tickOne_223 : decode cX2_tickOne 223 = .ok (.iload_n 2, 1) := dk_28 (dk_at dksX2_tickOne_9 8 rfl rfl)
theorem dX2_tickOne_224 : decode cX2_tickOne 224 = .ok (.ifCond .eq 7, 3) := dk_153 0 7 (dk_at dksX2_tickOne_9 9 rfl rfl)
theorem dX2_tickOne_227 : decode cX2_tickOne 227 = .ok (.iconst 1, 1) := dk_4 (dk_at dksX2_tickOne_9 12 rfl rfl)
theorem dX2_tickOne_228 : decode cX2_tickOne 228 = .ok (.goto 13, 3) := dk_167 0 13 (dk_at dksX2_tickOne_9 13 rfl rfl)
theorem dX2_tickOne_231 : decode cX2_tickOne 231 = .ok (.aload_n 0, 1) := dk_42 (dk_at dksX2_tickOne_9 16 rfl rfl)
theorem dX2_tickOne_232 : decode cX2_tickOne 232 = .ok (.getfield 7, 3) := dk_180 0 7 (dk_at dksX2_tickOne_9 17 rfl rfl)
theorem dX2_tickOne_235 : decode cX2_tickOne 235 = .ok (.sipush 184, 3) := dk_17 0 184 (dk_at dksX2_tickOne_9 20 rfl rfl)
theorem dX2_tickOne_238 : decode cX2_tickOne 238 = .ok (.iload_n 1, 1) := dk_27 (dk_at dksX2_tickOne_9 23 rfl rfl)
theorem dX2_tickOne_239 : decode cX2_tickOne 239 = .ok (.iadd, 1) := dk_96 (dk_at dksX2_tickOne_10 0 rfl rfl)
theorem dX2_tickOne_240 : decode cX2_tickOne 240 = .ok (.iaload, 1) := dk_46 (dk_at dksX2_tickOne_10 1 rfl rfl)
theorem dX2_tickOne_241 : decode cX2_tickOne 241 = .ok (.iastore, 1) := dk_79 (dk_at dksX2_tickOne_10 2 rfl rfl)
theorem dX2_tickOne_242 : decode cX2_tickOne 242 = .ok (.iinc 1 1, 3) := dk_132 1 1 (dk_at dksX2_tickOne_10 3 rfl rfl)
theorem dX2_tickOne_245 : decode cX2_tickOne 245 = .ok (.goto (-100), 3) := dk_167 255 156 (dk_at dksX2_tickOne_10 6 rfl rfl)
theorem dX2_tickOne_248 : decode cX2_tickOne 248 = .ok (.return_, 1) := dk_177 (dk_at dksX2_tickOne_10 9 rfl rfl)
abbrev cX2_round : ByteArray := prog_12_method_44_code
def yX2_round : MethodName := ⟨RX2, "round", "()I"⟩
def dkwX2_round_0 : List UInt8 := [42, 182, 0, 166, 42, 3, 182, 0, 172, 42, 3, 182, 0, 123, 172]
abbrev dktX2_round_0 : List UInt8 := dkwX2_round_0 ++ []
theorem dksX2_round_0 : cX2_round.data.toList.drop 0 = dktX2_round_0 := by decide +kernel
theorem dX2_round_0 : decode cX2_round 0 = .ok (.aload_n 0, 1) := dk_42 (dk_at dksX2_round_0 0 rfl rfl)
theorem dX2_round_1 : decode cX2_round 1 = .ok (.invokevirtual 166, 3) := dk_182 0 166 (dk_at dksX2_round_0 1 rfl rfl)
theorem dX2_round_4 : decode cX2_round 4 = .ok (.aload_n 0, 1) := dk_42 (dk_at dksX2_round_0 4 rfl rfl)
theorem dX2_round_5 : decode cX2_round 5 = .ok (.iconst 0, 1) := dk_3 (dk_at dksX2_round_0 5 rfl rfl)
theorem dX2_round_6 : decode cX2_round 6 = .ok (.invokevirtual 172, 3) := dk_182 0 172 (dk_at dksX2_round_0 6 rfl rfl)
theorem dX2_round_9 : decode cX2_round 9 = .ok (.aload_n 0, 1) := dk_42 (dk_at dksX2_round_0 9 rfl rfl)
theorem dX2_round_10 : decode cX2_round 10 = .ok (.iconst 0, 1) := dk_3 (dk_at dksX2_round_0 10 rfl rfl)
theorem dX2_round_11 : decode cX2_round 11 = .ok (.invokevirtual 123, 3) := dk_182 0 123 (dk_at dksX2_round_0 11 rfl rfl)
theorem dX2_round_14 : decode cX2_round 14 = .ok (.ireturn, 1) := dk_172 (dk_at dksX2_round_0 14 rfl rfl)
abbrev cX2_roundIn : ByteArray := prog_12_method_25_code
def yX2_roundIn : MethodName := ⟨RX2, "roundIn", "(I)V"⟩
def dkwX2_roundIn_4 : List UInt8 := [132, 2, 1, 167, 255, 226, 177]
abbrev dktX2_roundIn_4 : List UInt8 := dkwX2_roundIn_4 ++ []
def dkwX2_roundIn_3 : List UInt8 := [27, 46, 162, 0, 26, 42, 180, 0, 7, 27, 16, 19, 96, 28, 96, 42, 180, 0, 29, 28, 46, 79]
abbrev dktX2_roundIn_3 : List UInt8 := dkwX2_roundIn_3 ++ dktX2_roundIn_4
def dkwX2_roundIn_2 : List UInt8 := [180, 0, 7, 27, 16, 19, 96, 28, 96, 46, 79, 132, 2, 1, 167, 255, 197, 3, 61, 28, 42, 180, 0, 7]
abbrev dktX2_roundIn_2 : List UInt8 := dkwX2_roundIn_2 ++ dktX2_roundIn_3
def dkwX2_roundIn_1 : List UInt8 := [153, 0, 23, 42, 27, 28, 182, 0, 117, 42, 180, 0, 7, 27, 6, 96, 28, 96, 46, 100, 167, 0, 14, 42]
abbrev dktX2_roundIn_1 : List UInt8 := dkwX2_roundIn_1 ++ dktX2_roundIn_2
def dkwX2_roundIn_0 : List UInt8 := [3, 61, 28, 42, 180, 0, 7, 27, 46, 162, 0, 55, 42, 180, 0, 29, 28, 42, 27, 28, 182, 0, 114]
abbrev dktX2_roundIn_0 : List UInt8 := dkwX2_roundIn_0 ++ dktX2_roundIn_1
theorem dksX2_roundIn_0 : cX2_roundIn.data.toList.drop 0 = dktX2_roundIn_0 := by decide +kernel
theorem dksX2_roundIn_1 : cX2_roundIn.data.toList.drop 23 = dktX2_roundIn_1 := dk_seg dksX2_roundIn_0 23 rfl rfl
theorem dksX2_roundIn_2 : cX2_roundIn.data.toList.drop 47 = dktX2_roundIn_2 := dk_seg dksX2_roundIn_1 24 rfl rfl
theorem dksX2_roundIn_3 : cX2_roundIn.data.toList.drop 71 = dktX2_roundIn_3 := dk_seg dksX2_roundIn_2 24 rfl rfl
theorem dksX2_roundIn_4 : cX2_roundIn.data.toList.drop 93 = dktX2_roundIn_4 := dk_seg dksX2_roundIn_3 22 rfl rfl
theorem dX2_roundIn_0 : decode cX2_roundIn 0 = .ok (.iconst 0, 1) := dk_3 (dk_at dksX2_roundIn_0 0 rfl rfl)
theorem dX2_roundIn_1 : decode cX2_roundIn 1 = .ok (.istore_n 2, 1) := dk_61 (dk_at dksX2_roundIn_0 1 rfl rfl)
theorem dX2_roundIn_2 : decode cX2_roundIn 2 = .ok (.iload_n 2, 1) := dk_28 (dk_at dksX2_roundIn_0 2 rfl rfl)
theorem dX2_roundIn_3 : decode cX2_roundIn 3 = .ok (.aload_n 0, 1) := dk_42 (dk_at dksX2_roundIn_0 3 rfl rfl)
theorem dX2_roundIn_4 : decode cX2_roundIn 4 = .ok (.getfield 7, 3) := dk_180 0 7 (dk_at dksX2_roundIn_0 4 rfl rfl)
theorem dX2_roundIn_7 : decode cX2_roundIn 7 = .ok (.iload_n 1, 1) := dk_27 (dk_at dksX2_roundIn_0 7 rfl rfl)
theorem dX2_roundIn_8 : decode cX2_roundIn 8 = .ok (.iaload, 1) := dk_46 (dk_at dksX2_roundIn_0 8 rfl rfl)
theorem dX2_roundIn_9 : decode cX2_roundIn 9 = .ok (.if_icmp .ge 55, 3) := dk_162 0 55 (dk_at dksX2_roundIn_0 9 rfl rfl)
theorem dX2_roundIn_12 : decode cX2_roundIn 12 = .ok (.aload_n 0, 1) := dk_42 (dk_at dksX2_roundIn_0 12 rfl rfl)
theorem dX2_roundIn_13 : decode cX2_roundIn 13 = .ok (.getfield 29, 3) := dk_180 0 29 (dk_at dksX2_roundIn_0 13 rfl rfl)
theorem dX2_roundIn_16 : decode cX2_roundIn 16 = .ok (.iload_n 2, 1) := dk_28 (dk_at dksX2_roundIn_0 16 rfl rfl)
theorem dX2_roundIn_17 : decode cX2_roundIn 17 = .ok (.aload_n 0, 1) := dk_42 (dk_at dksX2_roundIn_0 17 rfl rfl)
theorem dX2_roundIn_18 : decode cX2_roundIn 18 = .ok (.iload_n 1, 1) := dk_27 (dk_at dksX2_roundIn_0 18 rfl rfl)
theorem dX2_roundIn_19 : decode cX2_roundIn 19 = .ok (.iload_n 2, 1) := dk_28 (dk_at dksX2_roundIn_0 19 rfl rfl)
theorem dX2_roundIn_20 : decode cX2_roundIn 20 = .ok (.invokevirtual 114, 3) := dk_182 0 114 (dk_at dksX2_roundIn_0 20 rfl rfl)
theorem dX2_roundIn_23 : decode cX2_roundIn 23 = .ok (.ifCond .eq 23, 3) := dk_153 0 23 (dk_at dksX2_roundIn_1 0 rfl rfl)
theorem dX2_roundIn_26 : decode cX2_roundIn 26 = .ok (.aload_n 0, 1) := dk_42 (dk_at dksX2_roundIn_1 3 rfl rfl)
theorem dX2_roundIn_27 : decode cX2_roundIn 27 = .ok (.iload_n 1, 1) := dk_27 (dk_at dksX2_roundIn_1 4 rfl rfl)
theorem dX2_roundIn_28 : decode cX2_roundIn 28 = .ok (.iload_n 2, 1) := dk_28 (dk_at dksX2_roundIn_1 5 rfl rfl)
theorem dX2_roundIn_29 : decode cX2_roundIn 29 = .ok (.invokevirtual 117, 3) := dk_182 0 117 (dk_at dksX2_roundIn_1 6 rfl rfl)
theorem dX2_roundIn_32 : decode cX2_roundIn 32 = .ok (.aload_n 0, 1) := dk_42 (dk_at dksX2_roundIn_1 9 rfl rfl)
theorem dX2_roundIn_33 : decode cX2_roundIn 33 = .ok (.getfield 7, 3) := dk_180 0 7 (dk_at dksX2_roundIn_1 10 rfl rfl)
theorem dX2_roundIn_36 : decode cX2_roundIn 36 = .ok (.iload_n 1, 1) := dk_27 (dk_at dksX2_roundIn_1 13 rfl rfl)
theorem dX2_roundIn_37 : decode cX2_roundIn 37 = .ok (.iconst 3, 1) := dk_6 (dk_at dksX2_roundIn_1 14 rfl rfl)
theorem dX2_roundIn_38 : decode cX2_roundIn 38 = .ok (.iadd, 1) := dk_96 (dk_at dksX2_roundIn_1 15 rfl rfl)
theorem dX2_roundIn_39 : decode cX2_roundIn 39 = .ok (.iload_n 2, 1) := dk_28 (dk_at dksX2_roundIn_1 16 rfl rfl)
theorem dX2_roundIn_40 : decode cX2_roundIn 40 = .ok (.iadd, 1) := dk_96 (dk_at dksX2_roundIn_1 17 rfl rfl)
theorem dX2_roundIn_41 : decode cX2_roundIn 41 = .ok (.iaload, 1) := dk_46 (dk_at dksX2_roundIn_1 18 rfl rfl)
theorem dX2_roundIn_42 : decode cX2_roundIn 42 = .ok (.isub, 1) := dk_100 (dk_at dksX2_roundIn_1 19 rfl rfl)
theorem dX2_roundIn_43 : decode cX2_roundIn 43 = .ok (.goto 14, 3) := dk_167 0 14 (dk_at dksX2_roundIn_1 20 rfl rfl)
theorem dX2_roundIn_46 : decode cX2_roundIn 46 = .ok (.aload_n 0, 1) := dk_42 (dk_at dksX2_roundIn_1 23 rfl rfl)
theorem dX2_roundIn_47 : decode cX2_roundIn 47 = .ok (.getfield 7, 3) := dk_180 0 7 (dk_at dksX2_roundIn_2 0 rfl rfl)
theorem dX2_roundIn_50 : decode cX2_roundIn 50 = .ok (.iload_n 1, 1) := dk_27 (dk_at dksX2_roundIn_2 3 rfl rfl)
theorem dX2_roundIn_51 : decode cX2_roundIn 51 = .ok (.bipush 19, 2) := dk_16 19 (dk_at dksX2_roundIn_2 4 rfl rfl)
theorem dX2_roundIn_53 : decode cX2_roundIn 53 = .ok (.iadd, 1) := dk_96 (dk_at dksX2_roundIn_2 6 rfl rfl)
theorem dX2_roundIn_54 : decode cX2_roundIn 54 = .ok (.iload_n 2, 1) := dk_28 (dk_at dksX2_roundIn_2 7 rfl rfl)
theorem dX2_roundIn_55 : decode cX2_roundIn 55 = .ok (.iadd, 1) := dk_96 (dk_at dksX2_roundIn_2 8 rfl rfl)
theorem dX2_roundIn_56 : decode cX2_roundIn 56 = .ok (.iaload, 1) := dk_46 (dk_at dksX2_roundIn_2 9 rfl rfl)
theorem dX2_roundIn_57 : decode cX2_roundIn 57 = .ok (.iastore, 1) := dk_79 (dk_at dksX2_roundIn_2 10 rfl rfl)
theorem dX2_roundIn_58 : decode cX2_roundIn 58 = .ok (.iinc 2 1, 3) := dk_132 2 1 (dk_at dksX2_roundIn_2 11 rfl rfl)
theorem dX2_roundIn_61 : decode cX2_roundIn 61 = .ok (.goto (-59), 3) := dk_167 255 197 (dk_at dksX2_roundIn_2 14 rfl rfl)
theorem dX2_roundIn_64 : decode cX2_roundIn 64 = .ok (.iconst 0, 1) := dk_3 (dk_at dksX2_roundIn_2 17 rfl rfl)
theorem dX2_roundIn_65 : decode cX2_roundIn 65 = .ok (.istore_n 2, 1) := dk_61 (dk_at dksX2_roundIn_2 18 rfl rfl)
theorem dX2_roundIn_66 : decode cX2_roundIn 66 = .ok (.iload_n 2, 1) := dk_28 (dk_at dksX2_roundIn_2 19 rfl rfl)
theorem dX2_roundIn_67 : decode cX2_roundIn 67 = .ok (.aload_n 0, 1) := dk_42 (dk_at dksX2_roundIn_2 20 rfl rfl)
theorem dX2_roundIn_68 : decode cX2_roundIn 68 = .ok (.getfield 7, 3) := dk_180 0 7 (dk_at dksX2_roundIn_2 21 rfl rfl)
theorem dX2_roundIn_71 : decode cX2_roundIn 71 = .ok (.iload_n 1, 1) := dk_27 (dk_at dksX2_roundIn_3 0 rfl rfl)
theorem dX2_roundIn_72 : decode cX2_roundIn 72 = .ok (.iaload, 1) := dk_46 (dk_at dksX2_roundIn_3 1 rfl rfl)
theorem dX2_roundIn_73 : decode cX2_roundIn 73 = .ok (.if_icmp .ge 26, 3) := dk_162 0 26 (dk_at dksX2_roundIn_3 2 rfl rfl)
theorem dX2_roundIn_76 : decode cX2_roundIn 76 = .ok (.aload_n 0, 1) := dk_42 (dk_at dksX2_roundIn_3 5 rfl rfl)
theorem dX2_roundIn_77 : decode cX2_roundIn 77 = .ok (.getfield 7, 3) := dk_180 0 7 (dk_at dksX2_roundIn_3 6 rfl rfl)
theorem dX2_roundIn_80 : decode cX2_roundIn 80 = .ok (.iload_n 1, 1) := dk_27 (dk_at dksX2_roundIn_3 9 rfl rfl)
theorem dX2_roundIn_81 : decode cX2_roundIn 81 = .ok (.bipush 19, 2) := dk_16 19 (dk_at dksX2_roundIn_3 10 rfl rfl)
theorem dX2_roundIn_83 : decode cX2_roundIn 83 = .ok (.iadd, 1) := dk_96 (dk_at dksX2_roundIn_3 12 rfl rfl)
theorem dX2_roundIn_84 : decode cX2_roundIn 84 = .ok (.iload_n 2, 1) := dk_28 (dk_at dksX2_roundIn_3 13 rfl rfl)
theorem dX2_roundIn_85 : decode cX2_roundIn 85 = .ok (.iadd, 1) := dk_96 (dk_at dksX2_roundIn_3 14 rfl rfl)
theorem dX2_roundIn_86 : decode cX2_roundIn 86 = .ok (.aload_n 0, 1) := dk_42 (dk_at dksX2_roundIn_3 15 rfl rfl)
theorem dX2_roundIn_87 : decode cX2_roundIn 87 = .ok (.getfield 29, 3) := dk_180 0 29 (dk_at dksX2_roundIn_3 16 rfl rfl)
theorem dX2_roundIn_90 : decode cX2_roundIn 90 = .ok (.iload_n 2, 1) := dk_28 (dk_at dksX2_roundIn_3 19 rfl rfl)
theorem dX2_roundIn_91 : decode cX2_roundIn 91 = .ok (.iaload, 1) := dk_46 (dk_at dksX2_roundIn_3 20 rfl rfl)
theorem dX2_roundIn_92 : decode cX2_roundIn 92 = .ok (.iastore, 1) := dk_79 (dk_at dksX2_roundIn_3 21 rfl rfl)
theorem dX2_roundIn_93 : decode cX2_roundIn 93 = .ok (.iinc 2 1, 3) := dk_132 2 1 (dk_at dksX2_roundIn_4 0 rfl rfl)
theorem dX2_roundIn_96 : decode cX2_roundIn 96 = .ok (.goto (-30), 3) := dk_167 255 226 (dk_at dksX2_roundIn_4 3 rfl rfl)
theorem dX2_roundIn_99 : decode cX2_roundIn 99 = .ok (.return_, 1) := dk_177 (dk_at dksX2_roundIn_4 6 rfl rfl)
abbrev cX2_lie : ByteArray := prog_12_method_45_code
def yX2_lie : MethodName := ⟨RX2, "lie", "(III)I"⟩
def dkwX2_lie_2 : List UInt8 := [17, 39, 15, 96, 54, 4, 42, 180, 0, 7, 16, 107, 16, 8, 27, 104, 96, 28, 96, 29, 79, 21, 4, 172]
abbrev dktX2_lie_2 : List UInt8 := dkwX2_lie_2 ++ []
def dkwX2_lie_1 : List UInt8 := [154, 0, 6, 18, 36, 172, 42, 182, 0, 166, 42, 180, 0, 7, 16, 107, 16, 8, 27, 104, 96, 28, 96, 46]
abbrev dktX2_lie_1 : List UInt8 := dkwX2_lie_1 ++ dktX2_lie_2
def dkwX2_lie_0 : List UInt8 := [42, 27, 28, 182, 0, 157, 154, 0, 6, 18, 155, 172, 29, 17, 216, 241, 17, 39, 15, 184, 0, 32]
abbrev dktX2_lie_0 : List UInt8 := dkwX2_lie_0 ++ dktX2_lie_1
theorem dksX2_lie_0 : cX2_lie.data.toList.drop 0 = dktX2_lie_0 := by decide +kernel
theorem dksX2_lie_1 : cX2_lie.data.toList.drop 22 = dktX2_lie_1 := dk_seg dksX2_lie_0 22 rfl rfl
theorem dksX2_lie_2 : cX2_lie.data.toList.drop 46 = dktX2_lie_2 := dk_seg dksX2_lie_1 24 rfl rfl
theorem dX2_lie_0 : decode cX2_lie 0 = .ok (.aload_n 0, 1) := dk_42 (dk_at dksX2_lie_0 0 rfl rfl)
theorem dX2_lie_1 : decode cX2_lie 1 = .ok (.iload_n 1, 1) := dk_27 (dk_at dksX2_lie_0 1 rfl rfl)
theorem dX2_lie_2 : decode cX2_lie 2 = .ok (.iload_n 2, 1) := dk_28 (dk_at dksX2_lie_0 2 rfl rfl)
theorem dX2_lie_3 : decode cX2_lie 3 = .ok (.invokevirtual 157, 3) := dk_182 0 157 (dk_at dksX2_lie_0 3 rfl rfl)
theorem dX2_lie_6 : decode cX2_lie 6 = .ok (.ifCond .ne 6, 3) := dk_154 0 6 (dk_at dksX2_lie_0 6 rfl rfl)
theorem dX2_lie_9 : decode cX2_lie 9 = .ok (.ldc 155, 2) := dk_18 155 (dk_at dksX2_lie_0 9 rfl rfl)
theorem dX2_lie_11 : decode cX2_lie 11 = .ok (.ireturn, 1) := dk_172 (dk_at dksX2_lie_0 11 rfl rfl)
theorem dX2_lie_12 : decode cX2_lie 12 = .ok (.iload_n 3, 1) := dk_29 (dk_at dksX2_lie_0 12 rfl rfl)
theorem dX2_lie_13 : decode cX2_lie 13 = .ok (.sipush (-9999), 3) := dk_17 216 241 (dk_at dksX2_lie_0 13 rfl rfl)
theorem dX2_lie_16 : decode cX2_lie 16 = .ok (.sipush 9999, 3) := dk_17 39 15 (dk_at dksX2_lie_0 16 rfl rfl)
theorem dX2_lie_19 : decode cX2_lie 19 = .ok (.invokestatic 32, 3) := dk_184 0 32 (dk_at dksX2_lie_0 19 rfl rfl)
theorem dX2_lie_22 : decode cX2_lie 22 = .ok (.ifCond .ne 6, 3) := dk_154 0 6 (dk_at dksX2_lie_1 0 rfl rfl)
theorem dX2_lie_25 : decode cX2_lie 25 = .ok (.ldc 36, 2) := dk_18 36 (dk_at dksX2_lie_1 3 rfl rfl)
theorem dX2_lie_27 : decode cX2_lie 27 = .ok (.ireturn, 1) := dk_172 (dk_at dksX2_lie_1 5 rfl rfl)
theorem dX2_lie_28 : decode cX2_lie 28 = .ok (.aload_n 0, 1) := dk_42 (dk_at dksX2_lie_1 6 rfl rfl)
theorem dX2_lie_29 : decode cX2_lie 29 = .ok (.invokevirtual 166, 3) := dk_182 0 166 (dk_at dksX2_lie_1 7 rfl rfl)
theorem dX2_lie_32 : decode cX2_lie 32 = .ok (.aload_n 0, 1) := dk_42 (dk_at dksX2_lie_1 10 rfl rfl)
theorem dX2_lie_33 : decode cX2_lie 33 = .ok (.getfield 7, 3) := dk_180 0 7 (dk_at dksX2_lie_1 11 rfl rfl)
theorem dX2_lie_36 : decode cX2_lie 36 = .ok (.bipush 107, 2) := dk_16 107 (dk_at dksX2_lie_1 14 rfl rfl)
theorem dX2_lie_38 : decode cX2_lie 38 = .ok (.bipush 8, 2) := dk_16 8 (dk_at dksX2_lie_1 16 rfl rfl)
theorem dX2_lie_40 : decode cX2_lie 40 = .ok (.iload_n 1, 1) := dk_27 (dk_at dksX2_lie_1 18 rfl rfl)
theorem dX2_lie_41 : decode cX2_lie 41 = .ok (.imul, 1) := dk_104 (dk_at dksX2_lie_1 19 rfl rfl)
theorem dX2_lie_42 : decode cX2_lie 42 = .ok (.iadd, 1) := dk_96 (dk_at dksX2_lie_1 20 rfl rfl)
theorem dX2_lie_43 : decode cX2_lie 43 = .ok (.iload_n 2, 1) := dk_28 (dk_at dksX2_lie_1 21 rfl rfl)
theorem dX2_lie_44 : decode cX2_lie 44 = .ok (.iadd, 1) := dk_96 (dk_at dksX2_lie_1 22 rfl rfl)
theorem dX2_lie_45 : decode cX2_lie 45 = .ok (.iaload, 1) := dk_46 (dk_at dksX2_lie_1 23 rfl rfl)
theorem dX2_lie_46 : decode cX2_lie 46 = .ok (.sipush 9999, 3) := dk_17 39 15 (dk_at dksX2_lie_2 0 rfl rfl)
theorem dX2_lie_49 : decode cX2_lie 49 = .ok (.iadd, 1) := dk_96 (dk_at dksX2_lie_2 3 rfl rfl)
theorem dX2_lie_50 : decode cX2_lie 50 = .ok (.istore 4, 2) := dk_54 4 (dk_at dksX2_lie_2 4 rfl rfl)
theorem dX2_lie_52 : decode cX2_lie 52 = .ok (.aload_n 0, 1) := dk_42 (dk_at dksX2_lie_2 6 rfl rfl)
theorem dX2_lie_53 : decode cX2_lie 53 = .ok (.getfield 7, 3) := dk_180 0 7 (dk_at dksX2_lie_2 7 rfl rfl)
theorem dX2_lie_56 : decode cX2_lie 56 = .ok (.bipush 107, 2) := dk_16 107 (dk_at dksX2_lie_2 10 rfl rfl)
theorem dX2_lie_58 : decode cX2_lie 58 = .ok (.bipush 8, 2) := dk_16 8 (dk_at dksX2_lie_2 12 rfl rfl)
theorem dX2_lie_60 : decode cX2_lie 60 = .ok (.iload_n 1, 1) := dk_27 (dk_at dksX2_lie_2 14 rfl rfl)
theorem dX2_lie_61 : decode cX2_lie 61 = .ok (.imul, 1) := dk_104 (dk_at dksX2_lie_2 15 rfl rfl)
theorem dX2_lie_62 : decode cX2_lie 62 = .ok (.iadd, 1) := dk_96 (dk_at dksX2_lie_2 16 rfl rfl)
theorem dX2_lie_63 : decode cX2_lie 63 = .ok (.iload_n 2, 1) := dk_28 (dk_at dksX2_lie_2 17 rfl rfl)
theorem dX2_lie_64 : decode cX2_lie 64 = .ok (.iadd, 1) := dk_96 (dk_at dksX2_lie_2 18 rfl rfl)
theorem dX2_lie_65 : decode cX2_lie 65 = .ok (.iload_n 3, 1) := dk_29 (dk_at dksX2_lie_2 19 rfl rfl)
theorem dX2_lie_66 : decode cX2_lie 66 = .ok (.iastore, 1) := dk_79 (dk_at dksX2_lie_2 20 rfl rfl)
theorem dX2_lie_67 : decode cX2_lie 67 = .ok (.iload 4, 2) := dk_21 4 (dk_at dksX2_lie_2 21 rfl rfl)
theorem dX2_lie_69 : decode cX2_lie 69 = .ok (.ireturn, 1) := dk_172 (dk_at dksX2_lie_2 23 rfl rfl)
abbrev cX2_error : ByteArray := prog_12_method_46_code
def yX2_error : MethodName := ⟨RX2, "error", "(III)I"⟩
def dkwX2_error_2 : List UInt8 := [54, 4, 42, 180, 0, 7, 16, 43, 16, 8, 27, 104, 96, 28, 96, 29, 79, 21, 4, 172]
abbrev dktX2_error_2 : List UInt8 := dkwX2_error_2 ++ []
def dkwX2_error_1 : List UInt8 := [18, 36, 172, 42, 182, 0, 166, 42, 180, 0, 7, 16, 43, 16, 8, 27, 104, 96, 28, 96, 46, 16, 20, 96]
abbrev dktX2_error_1 : List UInt8 := dkwX2_error_1 ++ dktX2_error_2
def dkwX2_error_0 : List UInt8 := [42, 27, 28, 182, 0, 157, 154, 0, 6, 18, 155, 172, 29, 16, 236, 16, 20, 184, 0, 32, 154, 0, 6]
abbrev dktX2_error_0 : List UInt8 := dkwX2_error_0 ++ dktX2_error_1
theorem dksX2_error_0 : cX2_error.data.toList.drop 0 = dktX2_error_0 := by decide +kernel
theorem dksX2_error_1 : cX2_error.data.toList.drop 23 = dktX2_error_1 := dk_seg dksX2_error_0 23 rfl rfl
theorem dksX2_error_2 : cX2_error.data.toList.drop 47 = dktX2_error_2 := dk_seg dksX2_error_1 24 rfl rfl
theorem dX2_error_0 : decode cX2_error 0 = .ok (.aload_n 0, 1) := dk_42 (dk_at dksX2_error_0 0 rfl rfl)
theorem dX2_error_1 : decode cX2_error 1 = .ok (.iload_n 1, 1) := dk_27 (dk_at dksX2_error_0 1 rfl rfl)
theorem dX2_error_2 : decode cX2_error 2 = .ok (.iload_n 2, 1) := dk_28 (dk_at dksX2_error_0 2 rfl rfl)
theorem dX2_error_3 : decode cX2_error 3 = .ok (.invokevirtual 157, 3) := dk_182 0 157 (dk_at dksX2_error_0 3 rfl rfl)
theorem dX2_error_6 : decode cX2_error 6 = .ok (.ifCond .ne 6, 3) := dk_154 0 6 (dk_at dksX2_error_0 6 rfl rfl)
theorem dX2_error_9 : decode cX2_error 9 = .ok (.ldc 155, 2) := dk_18 155 (dk_at dksX2_error_0 9 rfl rfl)
theorem dX2_error_11 : decode cX2_error 11 = .ok (.ireturn, 1) := dk_172 (dk_at dksX2_error_0 11 rfl rfl)
theorem dX2_error_12 : decode cX2_error 12 = .ok (.iload_n 3, 1) := dk_29 (dk_at dksX2_error_0 12 rfl rfl)
theorem dX2_error_13 : decode cX2_error 13 = .ok (.bipush (-20), 2) := dk_16 236 (dk_at dksX2_error_0 13 rfl rfl)
theorem dX2_error_15 : decode cX2_error 15 = .ok (.bipush 20, 2) := dk_16 20 (dk_at dksX2_error_0 15 rfl rfl)
theorem dX2_error_17 : decode cX2_error 17 = .ok (.invokestatic 32, 3) := dk_184 0 32 (dk_at dksX2_error_0 17 rfl rfl)
theorem dX2_error_20 : decode cX2_error 20 = .ok (.ifCond .ne 6, 3) := dk_154 0 6 (dk_at dksX2_error_0 20 rfl rfl)
theorem dX2_error_23 : decode cX2_error 23 = .ok (.ldc 36, 2) := dk_18 36 (dk_at dksX2_error_1 0 rfl rfl)
theorem dX2_error_25 : decode cX2_error 25 = .ok (.ireturn, 1) := dk_172 (dk_at dksX2_error_1 2 rfl rfl)
theorem dX2_error_26 : decode cX2_error 26 = .ok (.aload_n 0, 1) := dk_42 (dk_at dksX2_error_1 3 rfl rfl)
theorem dX2_error_27 : decode cX2_error 27 = .ok (.invokevirtual 166, 3) := dk_182 0 166 (dk_at dksX2_error_1 4 rfl rfl)
theorem dX2_error_30 : decode cX2_error 30 = .ok (.aload_n 0, 1) := dk_42 (dk_at dksX2_error_1 7 rfl rfl)
theorem dX2_error_31 : decode cX2_error 31 = .ok (.getfield 7, 3) := dk_180 0 7 (dk_at dksX2_error_1 8 rfl rfl)
theorem dX2_error_34 : decode cX2_error 34 = .ok (.bipush 43, 2) := dk_16 43 (dk_at dksX2_error_1 11 rfl rfl)
theorem dX2_error_36 : decode cX2_error 36 = .ok (.bipush 8, 2) := dk_16 8 (dk_at dksX2_error_1 13 rfl rfl)
theorem dX2_error_38 : decode cX2_error 38 = .ok (.iload_n 1, 1) := dk_27 (dk_at dksX2_error_1 15 rfl rfl)
theorem dX2_error_39 : decode cX2_error 39 = .ok (.imul, 1) := dk_104 (dk_at dksX2_error_1 16 rfl rfl)
theorem dX2_error_40 : decode cX2_error 40 = .ok (.iadd, 1) := dk_96 (dk_at dksX2_error_1 17 rfl rfl)
theorem dX2_error_41 : decode cX2_error 41 = .ok (.iload_n 2, 1) := dk_28 (dk_at dksX2_error_1 18 rfl rfl)
theorem dX2_error_42 : decode cX2_error 42 = .ok (.iadd, 1) := dk_96 (dk_at dksX2_error_1 19 rfl rfl)
theorem dX2_error_43 : decode cX2_error 43 = .ok (.iaload, 1) := dk_46 (dk_at dksX2_error_1 20 rfl rfl)
theorem dX2_error_44 : decode cX2_error 44 = .ok (.bipush 20, 2) := dk_16 20 (dk_at dksX2_error_1 21 rfl rfl)
theorem dX2_error_46 : decode cX2_error 46 = .ok (.iadd, 1) := dk_96 (dk_at dksX2_error_1 23 rfl rfl)
theorem dX2_error_47 : decode cX2_error 47 = .ok (.istore 4, 2) := dk_54 4 (dk_at dksX2_error_2 0 rfl rfl)
theorem dX2_error_49 : decode cX2_error 49 = .ok (.aload_n 0, 1) := dk_42 (dk_at dksX2_error_2 2 rfl rfl)
theorem dX2_error_50 : decode cX2_error 50 = .ok (.getfield 7, 3) := dk_180 0 7 (dk_at dksX2_error_2 3 rfl rfl)
theorem dX2_error_53 : decode cX2_error 53 = .ok (.bipush 43, 2) := dk_16 43 (dk_at dksX2_error_2 6 rfl rfl)
theorem dX2_error_55 : decode cX2_error 55 = .ok (.bipush 8, 2) := dk_16 8 (dk_at dksX2_error_2 8 rfl rfl)
theorem dX2_error_57 : decode cX2_error 57 = .ok (.iload_n 1, 1) := dk_27 (dk_at dksX2_error_2 10 rfl rfl)
theorem dX2_error_58 : decode cX2_error 58 = .ok (.imul, 1) := dk_104 (dk_at dksX2_error_2 11 rfl rfl)
theorem dX2_error_59 : decode cX2_error 59 = .ok (.iadd, 1) := dk_96 (dk_at dksX2_error_2 12 rfl rfl)
theorem dX2_error_60 : decode cX2_error 60 = .ok (.iload_n 2, 1) := dk_28 (dk_at dksX2_error_2 13 rfl rfl)
theorem dX2_error_61 : decode cX2_error 61 = .ok (.iadd, 1) := dk_96 (dk_at dksX2_error_2 14 rfl rfl)
theorem dX2_error_62 : decode cX2_error 62 = .ok (.iload_n 3, 1) := dk_29 (dk_at dksX2_error_2 15 rfl rfl)
theorem dX2_error_63 : decode cX2_error 63 = .ok (.iastore, 1) := dk_79 (dk_at dksX2_error_2 16 rfl rfl)
theorem dX2_error_64 : decode cX2_error 64 = .ok (.iload 4, 2) := dk_21 4 (dk_at dksX2_error_2 17 rfl rfl)
theorem dX2_error_66 : decode cX2_error 66 = .ok (.ireturn, 1) := dk_172 (dk_at dksX2_error_2 19 rfl rfl)
abbrev cX2_liar : ByteArray := prog_12_method_48_code
def yX2_liar : MethodName := ⟨RX2, "liar", "(IZ)I"⟩
def dkwX2_liar_1 : List UInt8 := [153, 0, 7, 4, 167, 0, 4, 3, 79, 42, 16, 27, 182, 0, 175, 172]
abbrev dktX2_liar_1 : List UInt8 := dkwX2_liar_1 ++ []
def dkwX2_liar_0 : List UInt8 := [42, 27, 182, 0, 136, 154, 0, 6, 18, 155, 172, 42, 182, 0, 166, 42, 180, 0, 7, 16, 27, 27, 96, 28]
abbrev dktX2_liar_0 : List UInt8 := dkwX2_liar_0 ++ dktX2_liar_1
theorem dksX2_liar_0 : cX2_liar.data.toList.drop 0 = dktX2_liar_0 := by decide +kernel
theorem dksX2_liar_1 : cX2_liar.data.toList.drop 24 = dktX2_liar_1 := dk_seg dksX2_liar_0 24 rfl rfl
theorem dX2_liar_0 : decode cX2_liar 0 = .ok (.aload_n 0, 1) := dk_42 (dk_at dksX2_liar_0 0 rfl rfl)
theorem dX2_liar_1 : decode cX2_liar 1 = .ok (.iload_n 1, 1) := dk_27 (dk_at dksX2_liar_0 1 rfl rfl)
theorem dX2_liar_2 : decode cX2_liar 2 = .ok (.invokevirtual 136, 3) := dk_182 0 136 (dk_at dksX2_liar_0 2 rfl rfl)
theorem dX2_liar_5 : decode cX2_liar 5 = .ok (.ifCond .ne 6, 3) := dk_154 0 6 (dk_at dksX2_liar_0 5 rfl rfl)
theorem dX2_liar_8 : decode cX2_liar 8 = .ok (.ldc 155, 2) := dk_18 155 (dk_at dksX2_liar_0 8 rfl rfl)
theorem dX2_liar_10 : decode cX2_liar 10 = .ok (.ireturn, 1) := dk_172 (dk_at dksX2_liar_0 10 rfl rfl)
theorem dX2_liar_11 : decode cX2_liar 11 = .ok (.aload_n 0, 1) := dk_42 (dk_at dksX2_liar_0 11 rfl rfl)
theorem dX2_liar_12 : decode cX2_liar 12 = .ok (.invokevirtual 166, 3) := dk_182 0 166 (dk_at dksX2_liar_0 12 rfl rfl)
theorem dX2_liar_15 : decode cX2_liar 15 = .ok (.aload_n 0, 1) := dk_42 (dk_at dksX2_liar_0 15 rfl rfl)
theorem dX2_liar_16 : decode cX2_liar 16 = .ok (.getfield 7, 3) := dk_180 0 7 (dk_at dksX2_liar_0 16 rfl rfl)
theorem dX2_liar_19 : decode cX2_liar 19 = .ok (.bipush 27, 2) := dk_16 27 (dk_at dksX2_liar_0 19 rfl rfl)
theorem dX2_liar_21 : decode cX2_liar 21 = .ok (.iload_n 1, 1) := dk_27 (dk_at dksX2_liar_0 21 rfl rfl)
theorem dX2_liar_22 : decode cX2_liar 22 = .ok (.iadd, 1) := dk_96 (dk_at dksX2_liar_0 22 rfl rfl)
theorem dX2_liar_23 : decode cX2_liar 23 = .ok (.iload_n 2, 1) := dk_28 (dk_at dksX2_liar_0 23 rfl rfl)
theorem dX2_liar_24 : decode cX2_liar 24 = .ok (.ifCond .eq 7, 3) := dk_153 0 7 (dk_at dksX2_liar_1 0 rfl rfl)
theorem dX2_liar_27 : decode cX2_liar 27 = .ok (.iconst 1, 1) := dk_4 (dk_at dksX2_liar_1 3 rfl rfl)
theorem dX2_liar_28 : decode cX2_liar 28 = .ok (.goto 4, 3) := dk_167 0 4 (dk_at dksX2_liar_1 4 rfl rfl)
theorem dX2_liar_31 : decode cX2_liar 31 = .ok (.iconst 0, 1) := dk_3 (dk_at dksX2_liar_1 7 rfl rfl)
theorem dX2_liar_32 : decode cX2_liar 32 = .ok (.iastore, 1) := dk_79 (dk_at dksX2_liar_1 8 rfl rfl)
theorem dX2_liar_33 : decode cX2_liar 33 = .ok (.aload_n 0, 1) := dk_42 (dk_at dksX2_liar_1 9 rfl rfl)
theorem dX2_liar_34 : decode cX2_liar 34 = .ok (.bipush 27, 2) := dk_16 27 (dk_at dksX2_liar_1 10 rfl rfl)
theorem dX2_liar_36 : decode cX2_liar 36 = .ok (.invokevirtual 175, 3) := dk_182 0 175 (dk_at dksX2_liar_1 12 rfl rfl)
theorem dX2_liar_39 : decode cX2_liar 39 = .ok (.ireturn, 1) := dk_172 (dk_at dksX2_liar_1 15 rfl rfl)
abbrev cX2_manyOf : ByteArray := prog_12_method_47_code
def yX2_manyOf : MethodName := ⟨RX2, "manyOf", "(I)I"⟩
def dkwX2_manyOf_1 : List UInt8 := [61, 132, 3, 1, 167, 255, 232, 28, 172]
abbrev dktX2_manyOf_1 : List UInt8 := dkwX2_manyOf_1 ++ []
def dkwX2_manyOf_0 : List UInt8 := [3, 61, 3, 62, 29, 42, 180, 0, 7, 3, 46, 162, 0, 20, 28, 42, 180, 0, 7, 27, 29, 96, 46, 96]
abbrev dktX2_manyOf_0 : List UInt8 := dkwX2_manyOf_0 ++ dktX2_manyOf_1
theorem dksX2_manyOf_0 : cX2_manyOf.data.toList.drop 0 = dktX2_manyOf_0 := by decide +kernel
theorem dksX2_manyOf_1 : cX2_manyOf.data.toList.drop 24 = dktX2_manyOf_1 := dk_seg dksX2_manyOf_0 24 rfl rfl
theorem dX2_manyOf_0 : decode cX2_manyOf 0 = .ok (.iconst 0, 1) := dk_3 (dk_at dksX2_manyOf_0 0 rfl rfl)
theorem dX2_manyOf_1 : decode cX2_manyOf 1 = .ok (.istore_n 2, 1) := dk_61 (dk_at dksX2_manyOf_0 1 rfl rfl)
theorem dX2_manyOf_2 : decode cX2_manyOf 2 = .ok (.iconst 0, 1) := dk_3 (dk_at dksX2_manyOf_0 2 rfl rfl)
theorem dX2_manyOf_3 : decode cX2_manyOf 3 = .ok (.istore_n 3, 1) := dk_62 (dk_at dksX2_manyOf_0 3 rfl rfl)
theorem dX2_manyOf_4 : decode cX2_manyOf 4 = .ok (.iload_n 3, 1) := dk_29 (dk_at dksX2_manyOf_0 4 rfl rfl)
theorem dX2_manyOf_5 : decode cX2_manyOf 5 = .ok (.aload_n 0, 1) := dk_42 (dk_at dksX2_manyOf_0 5 rfl rfl)
theorem dX2_manyOf_6 : decode cX2_manyOf 6 = .ok (.getfield 7, 3) := dk_180 0 7 (dk_at dksX2_manyOf_0 6 rfl rfl)
theorem dX2_manyOf_9 : decode cX2_manyOf 9 = .ok (.iconst 0, 1) := dk_3 (dk_at dksX2_manyOf_0 9 rfl rfl)
theorem dX2_manyOf_10 : decode cX2_manyOf 10 = .ok (.iaload, 1) := dk_46 (dk_at dksX2_manyOf_0 10 rfl rfl)
theorem dX2_manyOf_11 : decode cX2_manyOf 11 = .ok (.if_icmp .ge 20, 3) := dk_162 0 20 (dk_at dksX2_manyOf_0 11 rfl rfl)
theorem dX2_manyOf_14 : decode cX2_manyOf 14 = .ok (.iload_n 2, 1) := dk_28 (dk_at dksX2_manyOf_0 14 rfl rfl)
theorem dX2_manyOf_15 : decode cX2_manyOf 15 = .ok (.aload_n 0, 1) := dk_42 (dk_at dksX2_manyOf_0 15 rfl rfl)
theorem dX2_manyOf_16 : decode cX2_manyOf 16 = .ok (.getfield 7, 3) := dk_180 0 7 (dk_at dksX2_manyOf_0 16 rfl rfl)
theorem dX2_manyOf_19 : decode cX2_manyOf 19 = .ok (.iload_n 1, 1) := dk_27 (dk_at dksX2_manyOf_0 19 rfl rfl)
theorem dX2_manyOf_20 : decode cX2_manyOf 20 = .ok (.iload_n 3, 1) := dk_29 (dk_at dksX2_manyOf_0 20 rfl rfl)
theorem dX2_manyOf_21 : decode cX2_manyOf 21 = .ok (.iadd, 1) := dk_96 (dk_at dksX2_manyOf_0 21 rfl rfl)
theorem dX2_manyOf_22 : decode cX2_manyOf 22 = .ok (.iaload, 1) := dk_46 (dk_at dksX2_manyOf_0 22 rfl rfl)
theorem dX2_manyOf_23 : decode cX2_manyOf 23 = .ok (.iadd, 1) := dk_96 (dk_at dksX2_manyOf_0 23 rfl rfl)
theorem dX2_manyOf_24 : decode cX2_manyOf 24 = .ok (.istore_n 2, 1) := dk_61 (dk_at dksX2_manyOf_1 0 rfl rfl)
theorem dX2_manyOf_25 : decode cX2_manyOf 25 = .ok (.iinc 3 1, 3) := dk_132 3 1 (dk_at dksX2_manyOf_1 1 rfl rfl)
theorem dX2_manyOf_28 : decode cX2_manyOf 28 = .ok (.goto (-24), 3) := dk_167 255 232 (dk_at dksX2_manyOf_1 4 rfl rfl)
theorem dX2_manyOf_31 : decode cX2_manyOf 31 = .ok (.iload_n 2, 1) := dk_28 (dk_at dksX2_manyOf_1 7 rfl rfl)
theorem dX2_manyOf_32 : decode cX2_manyOf 32 = .ok (.ireturn, 1) := dk_172 (dk_at dksX2_manyOf_1 8 rfl rfl)
abbrev cX2_stand : ByteArray := prog_12_method_49_code
def yX2_stand : MethodName := ⟨RX2, "stand", "(I)I"⟩
def dkwX2_stand_1 : List UInt8 := [18, 178, 172, 42, 182, 0, 166, 42, 180, 0, 7, 16, 35, 27, 96, 4, 79, 42, 16, 35, 182, 0, 175, 172]
abbrev dktX2_stand_1 : List UInt8 := dkwX2_stand_1 ++ []
def dkwX2_stand_0 : List UInt8 := [42, 27, 182, 0, 136, 154, 0, 6, 18, 155, 172, 42, 180, 0, 7, 16, 35, 27, 96, 46, 4, 160, 0, 6]
abbrev dktX2_stand_0 : List UInt8 := dkwX2_stand_0 ++ dktX2_stand_1
theorem dksX2_stand_0 : cX2_stand.data.toList.drop 0 = dktX2_stand_0 := by decide +kernel
theorem dksX2_stand_1 : cX2_stand.data.toList.drop 24 = dktX2_stand_1 := dk_seg dksX2_stand_0 24 rfl rfl
theorem dX2_stand_0 : decode cX2_stand 0 = .ok (.aload_n 0, 1) := dk_42 (dk_at dksX2_stand_0 0 rfl rfl)
theorem dX2_stand_1 : decode cX2_stand 1 = .ok (.iload_n 1, 1) := dk_27 (dk_at dksX2_stand_0 1 rfl rfl)
theorem dX2_stand_2 : decode cX2_stand 2 = .ok (.invokevirtual 136, 3) := dk_182 0 136 (dk_at dksX2_stand_0 2 rfl rfl)
theorem dX2_stand_5 : decode cX2_stand 5 = .ok (.ifCond .ne 6, 3) := dk_154 0 6 (dk_at dksX2_stand_0 5 rfl rfl)
theorem dX2_stand_8 : decode cX2_stand 8 = .ok (.ldc 155, 2) := dk_18 155 (dk_at dksX2_stand_0 8 rfl rfl)
theorem dX2_stand_10 : decode cX2_stand 10 = .ok (.ireturn, 1) := dk_172 (dk_at dksX2_stand_0 10 rfl rfl)
theorem dX2_stand_11 : decode cX2_stand 11 = .ok (.aload_n 0, 1) := dk_42 (dk_at dksX2_stand_0 11 rfl rfl)
theorem dX2_stand_12 : decode cX2_stand 12 = .ok (.getfield 7, 3) := dk_180 0 7 (dk_at dksX2_stand_0 12 rfl rfl)
theorem dX2_stand_15 : decode cX2_stand 15 = .ok (.bipush 35, 2) := dk_16 35 (dk_at dksX2_stand_0 15 rfl rfl)
theorem dX2_stand_17 : decode cX2_stand 17 = .ok (.iload_n 1, 1) := dk_27 (dk_at dksX2_stand_0 17 rfl rfl)
theorem dX2_stand_18 : decode cX2_stand 18 = .ok (.iadd, 1) := dk_96 (dk_at dksX2_stand_0 18 rfl rfl)
theorem dX2_stand_19 : decode cX2_stand 19 = .ok (.iaload, 1) := dk_46 (dk_at dksX2_stand_0 19 rfl rfl)
theorem dX2_stand_20 : decode cX2_stand 20 = .ok (.iconst 1, 1) := dk_4 (dk_at dksX2_stand_0 20 rfl rfl)
theorem dX2_stand_21 : decode cX2_stand 21 = .ok (.if_icmp .ne 6, 3) := dk_160 0 6 (dk_at dksX2_stand_0 21 rfl rfl)
theorem dX2_stand_24 : decode cX2_stand 24 = .ok (.ldc 178, 2) := dk_18 178 (dk_at dksX2_stand_1 0 rfl rfl)
theorem dX2_stand_26 : decode cX2_stand 26 = .ok (.ireturn, 1) := dk_172 (dk_at dksX2_stand_1 2 rfl rfl)
theorem dX2_stand_27 : decode cX2_stand 27 = .ok (.aload_n 0, 1) := dk_42 (dk_at dksX2_stand_1 3 rfl rfl)
theorem dX2_stand_28 : decode cX2_stand 28 = .ok (.invokevirtual 166, 3) := dk_182 0 166 (dk_at dksX2_stand_1 4 rfl rfl)
theorem dX2_stand_31 : decode cX2_stand 31 = .ok (.aload_n 0, 1) := dk_42 (dk_at dksX2_stand_1 7 rfl rfl)
theorem dX2_stand_32 : decode cX2_stand 32 = .ok (.getfield 7, 3) := dk_180 0 7 (dk_at dksX2_stand_1 8 rfl rfl)
theorem dX2_stand_35 : decode cX2_stand 35 = .ok (.bipush 35, 2) := dk_16 35 (dk_at dksX2_stand_1 11 rfl rfl)
theorem dX2_stand_37 : decode cX2_stand 37 = .ok (.iload_n 1, 1) := dk_27 (dk_at dksX2_stand_1 13 rfl rfl)
theorem dX2_stand_38 : decode cX2_stand 38 = .ok (.iadd, 1) := dk_96 (dk_at dksX2_stand_1 14 rfl rfl)
theorem dX2_stand_39 : decode cX2_stand 39 = .ok (.iconst 1, 1) := dk_4 (dk_at dksX2_stand_1 15 rfl rfl)
theorem dX2_stand_40 : decode cX2_stand 40 = .ok (.iastore, 1) := dk_79 (dk_at dksX2_stand_1 16 rfl rfl)
theorem dX2_stand_41 : decode cX2_stand 41 = .ok (.aload_n 0, 1) := dk_42 (dk_at dksX2_stand_1 17 rfl rfl)
theorem dX2_stand_42 : decode cX2_stand 42 = .ok (.bipush 35, 2) := dk_16 35 (dk_at dksX2_stand_1 18 rfl rfl)
theorem dX2_stand_44 : decode cX2_stand 44 = .ok (.invokevirtual 175, 3) := dk_182 0 175 (dk_at dksX2_stand_1 20 rfl rfl)
theorem dX2_stand_47 : decode cX2_stand 47 = .ok (.ireturn, 1) := dk_172 (dk_at dksX2_stand_1 23 rfl rfl)
abbrev cX2_join : ByteArray := prog_12_method_50_code
def yX2_join : MethodName := ⟨RX2, "join", "(I)I"⟩
def dkwX2_join_9 : List UInt8 := [79, 132, 3, 1, 167, 255, 170, 42, 180, 0, 7, 6, 27, 96, 46, 172]
abbrev dktX2_join_9 : List UInt8 := dkwX2_join_9 ++ []
def dkwX2_join_8 : List UInt8 := [17, 0, 184, 29, 96, 21, 4, 153, 0, 7, 4, 167, 0, 13, 42, 180, 0, 7, 17, 0, 184, 29, 96, 46]
abbrev dktX2_join_8 : List UInt8 := dkwX2_join_8 ++ dktX2_join_9
def dkwX2_join_7 : List UInt8 := [180, 0, 7, 17, 0, 178, 29, 96, 46, 161, 0, 7, 4, 167, 0, 4, 3, 54, 4, 42, 180, 0, 7]
abbrev dktX2_join_7 : List UInt8 := dkwX2_join_7 ++ dktX2_join_8
def dkwX2_join_6 : List UInt8 := [180, 0, 7, 17, 0, 172, 29, 96, 46, 27, 160, 0, 28, 42, 180, 0, 7, 6, 27, 96, 46, 42]
abbrev dktX2_join_6 : List UInt8 := dkwX2_join_6 ++ dktX2_join_7
def dkwX2_join_5 : List UInt8 := [180, 0, 7, 16, 35, 27, 96, 3, 79, 3, 62, 29, 42, 180, 0, 7, 17, 0, 171, 46, 162, 0, 80, 42]
abbrev dktX2_join_5 : List UInt8 := dkwX2_join_5 ++ dktX2_join_6
def dkwX2_join_4 : List UInt8 := [180, 0, 7, 6, 27, 96, 42, 3, 28, 182, 0, 111, 79, 42, 180, 0, 7, 16, 19, 27, 96, 3, 79, 42]
abbrev dktX2_join_4 : List UInt8 := dkwX2_join_4 ++ dktX2_join_5
def dkwX2_join_3 : List UInt8 := [28, 5, 42, 180, 0, 7, 4, 46, 104, 4, 96, 162, 0, 6, 18, 178, 172, 42, 182, 0, 166, 42]
abbrev dktX2_join_3 : List UInt8 := dkwX2_join_3 ++ dktX2_join_4
def dkwX2_join_2 : List UInt8 := [182, 0, 108, 132, 2, 1, 132, 3, 1, 167, 255, 216, 42, 180, 0, 7, 16, 35, 27, 96, 46, 153, 0, 17]
abbrev dktX2_join_2 : List UInt8 := dkwX2_join_2 ++ dktX2_join_3
def dkwX2_join_1 : List UInt8 := [162, 0, 36, 42, 180, 0, 7, 16, 35, 29, 96, 46, 154, 0, 18, 42, 28, 42, 3, 29, 27, 182, 0, 104]
abbrev dktX2_join_1 : List UInt8 := dkwX2_join_1 ++ dktX2_join_2
def dkwX2_join_0 : List UInt8 := [42, 27, 182, 0, 136, 154, 0, 6, 18, 155, 172, 3, 61, 3, 62, 29, 42, 180, 0, 7, 3, 46]
abbrev dktX2_join_0 : List UInt8 := dkwX2_join_0 ++ dktX2_join_1
theorem dksX2_join_0 : cX2_join.data.toList.drop 0 = dktX2_join_0 := by decide +kernel
theorem dksX2_join_1 : cX2_join.data.toList.drop 22 = dktX2_join_1 := dk_seg dksX2_join_0 22 rfl rfl
theorem dksX2_join_2 : cX2_join.data.toList.drop 46 = dktX2_join_2 := dk_seg dksX2_join_1 24 rfl rfl
theorem dksX2_join_3 : cX2_join.data.toList.drop 70 = dktX2_join_3 := dk_seg dksX2_join_2 24 rfl rfl
theorem dksX2_join_4 : cX2_join.data.toList.drop 92 = dktX2_join_4 := dk_seg dksX2_join_3 22 rfl rfl
theorem dksX2_join_5 : cX2_join.data.toList.drop 116 = dktX2_join_5 := dk_seg dksX2_join_4 24 rfl rfl
theorem dksX2_join_6 : cX2_join.data.toList.drop 140 = dktX2_join_6 := dk_seg dksX2_join_5 24 rfl rfl
theorem dksX2_join_7 : cX2_join.data.toList.drop 162 = dktX2_join_7 := dk_seg dksX2_join_6 22 rfl rfl
theorem dksX2_join_8 : cX2_join.data.toList.drop 185 = dktX2_join_8 := dk_seg dksX2_join_7 23 rfl rfl
theorem dksX2_join_9 : cX2_join.data.toList.drop 209 = dktX2_join_9 := dk_seg dksX2_join_8 24 rfl rfl
theorem dX2_join_0 : decode cX2_join 0 = .ok (.aload_n 0, 1) := dk_42 (dk_at dksX2_join_0 0 rfl rfl)
theorem dX2_join_1 : decode cX2_join 1 = .ok (.iload_n 1, 1) := dk_27 (dk_at dksX2_join_0 1 rfl rfl)
theorem dX2_join_2 : decode cX2_join 2 = .ok (.invokevirtual 136, 3) := dk_182 0 136 (dk_at dksX2_join_0 2 rfl rfl)
theorem dX2_join_5 : decode cX2_join 5 = .ok (.ifCond .ne 6, 3) := dk_154 0 6 (dk_at dksX2_join_0 5 rfl rfl)
theorem dX2_join_8 : decode cX2_join 8 = .ok (.ldc 155, 2) := dk_18 155 (dk_at dksX2_join_0 8 rfl rfl)
theorem dX2_join_10 : decode cX2_join 10 = .ok (.ireturn, 1) := dk_172 (dk_at dksX2_join_0 10 rfl rfl)
theorem dX2_join_11 : decode cX2_join 11 = .ok (.iconst 0, 1) := dk_3 (dk_at dksX2_join_0 11 rfl rfl)
theorem dX2_join_12 : decode cX2_join 12 = .ok (.istore_n 2, 1) := dk_61 (dk_at dksX2_join_0 12 rfl rfl)
theorem dX2_join_13 : decode cX2_join 13 = .ok (.iconst 0, 1) := dk_3 (dk_at dksX2_join_0 13 rfl rfl)
theorem dX2_join_14 : decode cX2_join 14 = .ok (.istore_n 3, 1) := dk_62 (dk_at dksX2_join_0 14 rfl rfl)
theorem dX2_join_15 : decode cX2_join 15 = .ok (.iload_n 3, 1) := dk_29 (dk_at dksX2_join_0 15 rfl rfl)
theorem dX2_join_16 : decode cX2_join 16 = .ok (.aload_n 0, 1) := dk_42 (dk_at dksX2_join_0 16 rfl rfl)
theorem dX2_join_17 : decode cX2_join 17 = .ok (.getfield 7, 3) := dk_180 0 7 (dk_at dksX2_join_0 17 rfl rfl)
theorem dX2_join_20 : decode cX2_join 20 = .ok (.iconst 0, 1) := dk_3 (dk_at dksX2_join_0 20 rfl rfl)
theorem dX2_join_21 : decode cX2_join 21 = .ok (.iaload, 1) := dk_46 (dk_at dksX2_join_0 21 rfl rfl)
theorem dX2_join_22 : decode cX2_join 22 = .ok (.if_icmp .ge 36, 3) := dk_162 0 36 (dk_at dksX2_join_1 0 rfl rfl)
theorem dX2_join_25 : decode cX2_join 25 = .ok (.aload_n 0, 1) := dk_42 (dk_at dksX2_join_1 3 rfl rfl)
theorem dX2_join_26 : decode cX2_join 26 = .ok (.getfield 7, 3) := dk_180 0 7 (dk_at dksX2_join_1 4 rfl rfl)
theorem dX2_join_29 : decode cX2_join 29 = .ok (.bipush 35, 2) := dk_16 35 (dk_at dksX2_join_1 7 rfl rfl)
theorem dX2_join_31 : decode cX2_join 31 = .ok (.iload_n 3, 1) := dk_29 (dk_at dksX2_join_1 9 rfl rfl)
theorem dX2_join_32 : decode cX2_join 32 = .ok (.iadd, 1) := dk_96 (dk_at dksX2_join_1 10 rfl rfl)
theorem dX2_join_33 : decode cX2_join 33 = .ok (.iaload, 1) := dk_46 (dk_at dksX2_join_1 11 rfl rfl)
theorem dX2_join_34 : decode cX2_join 34 = .ok (.ifCond .ne 18, 3) := dk_154 0 18 (dk_at dksX2_join_1 12 rfl rfl)
theorem dX2_join_37 : decode cX2_join 37 = .ok (.aload_n 0, 1) := dk_42 (dk_at dksX2_join_1 15 rfl rfl)
theorem dX2_join_38 : decode cX2_join 38 = .ok (.iload_n 2, 1) := dk_28 (dk_at dksX2_join_1 16 rfl rfl)
theorem dX2_join_39 : decode cX2_join 39 = .ok (.aload_n 0, 1) := dk_42 (dk_at dksX2_join_1 17 rfl rfl)
theorem dX2_join_40 : decode cX2_join 40 = .ok (.iconst 0, 1) := dk_3 (dk_at dksX2_join_1 18 rfl rfl)
theorem dX2_join_41 : decode cX2_join 41 = .ok (.iload_n 3, 1) := dk_29 (dk_at dksX2_join_1 19 rfl rfl)
theorem dX2_join_42 : decode cX2_join 42 = .ok (.iload_n 1, 1) := dk_27 (dk_at dksX2_join_1 20 rfl rfl)
theorem dX2_join_43 : decode cX2_join 43 = .ok (.invokevirtual 104, 3) := dk_182 0 104 (dk_at dksX2_join_1 21 rfl rfl)
theorem dX2_join_46 : decode cX2_join 46 = .ok (.invokevirtual 108, 3) := dk_182 0 108 (dk_at dksX2_join_2 0 rfl rfl)
theorem dX2_join_49 : decode cX2_join 49 = .ok (.iinc 2 1, 3) := dk_132 2 1 (dk_at dksX2_join_2 3 rfl rfl)
theorem dX2_join_52 : decode cX2_join 52 = .ok (.iinc 3 1, 3) := dk_132 3 1 (dk_at dksX2_join_2 6 rfl rfl)
theorem dX2_join_55 : decode cX2_join 55 = .ok (.goto (-40), 3) := dk_167 255 216 (dk_at dksX2_join_2 9 rfl rfl)
theorem dX2_join_58 : decode cX2_join 58 = .ok (.aload_n 0, 1) := dk_42 (dk_at dksX2_join_2 12 rfl rfl)
theorem dX2_join_59 : decode cX2_join 59 = .ok (.getfield 7, 3) := dk_180 0 7 (dk_at dksX2_join_2 13 rfl rfl)
theorem dX2_join_62 : decode cX2_join 62 = .ok (.bipush 35, 2) := dk_16 35 (dk_at dksX2_join_2 16 rfl rfl)
theorem dX2_join_64 : decode cX2_join 64 = .ok (.iload_n 1, 1) := dk_27 (dk_at dksX2_join_2 18 rfl rfl)
theorem dX2_join_65 : decode cX2_join 65 = .ok (.iadd, 1) := dk_96 (dk_at dksX2_join_2 19 rfl rfl)
theorem dX2_join_66 : decode cX2_join 66 = .ok (.iaload, 1) := dk_46 (dk_at dksX2_join_2 20 rfl rfl)
theorem dX2_join_67 : decode cX2_join 67 = .ok (.ifCond .eq 17, 3) := dk_153 0 17 (dk_at dksX2_join_2 21 rfl rfl)
theorem dX2_join_70 : decode cX2_join 70 = .ok (.iload_n 2, 1) := dk_28 (dk_at dksX2_join_3 0 rfl rfl)
theorem dX2_join_71 : decode cX2_join 71 = .ok (.iconst 2, 1) := dk_5 (dk_at dksX2_join_3 1 rfl rfl)
theorem dX2_join_72 : decode cX2_join 72 = .ok (.aload_n 0, 1) := dk_42 (dk_at dksX2_join_3 2 rfl rfl)
theorem dX2_join_73 : decode cX2_join 73 = .ok (.getfield 7, 3) := dk_180 0 7 (dk_at dksX2_join_3 3 rfl rfl)
theorem dX2_join_76 : decode cX2_join 76 = .ok (.iconst 1, 1) := dk_4 (dk_at dksX2_join_3 6 rfl rfl)
theorem dX2_join_77 : decode cX2_join 77 = .ok (.iaload, 1) := dk_46 (dk_at dksX2_join_3 7 rfl rfl)
theorem dX2_join_78 : decode cX2_join 78 = .ok (.imul, 1) := dk_104 (dk_at dksX2_join_3 8 rfl rfl)
theorem dX2_join_79 : decode cX2_join 79 = .ok (.iconst 1, 1) := dk_4 (dk_at dksX2_join_3 9 rfl rfl)
theorem dX2_join_80 : decode cX2_join 80 = .ok (.iadd, 1) := dk_96 (dk_at dksX2_join_3 10 rfl rfl)
theorem dX2_join_81 : decode cX2_join 81 = .ok (.if_icmp .ge 6, 3) := dk_162 0 6 (dk_at dksX2_join_3 11 rfl rfl)
theorem dX2_join_84 : decode cX2_join 84 = .ok (.ldc 178, 2) := dk_18 178 (dk_at dksX2_join_3 14 rfl rfl)
theorem dX2_join_86 : decode cX2_join 86 = .ok (.ireturn, 1) := dk_172 (dk_at dksX2_join_3 16 rfl rfl)
theorem dX2_join_87 : decode cX2_join 87 = .ok (.aload_n 0, 1) := dk_42 (dk_at dksX2_join_3 17 rfl rfl)
theorem dX2_join_88 : decode cX2_join 88 = .ok (.invokevirtual 166, 3) := dk_182 0 166 (dk_at dksX2_join_3 18 rfl rfl)
theorem dX2_join_91 : decode cX2_join 91 = .ok (.aload_n 0, 1) := dk_42 (dk_at dksX2_join_3 21 rfl rfl)
theorem dX2_join_92 : decode cX2_join 92 = .ok (.getfield 7, 3) := dk_180 0 7 (dk_at dksX2_join_4 0 rfl rfl)
theorem dX2_join_95 : decode cX2_join 95 = .ok (.iconst 3, 1) := dk_6 (dk_at dksX2_join_4 3 rfl rfl)
theorem dX2_join_96 : decode cX2_join 96 = .ok (.iload_n 1, 1) := dk_27 (dk_at dksX2_join_4 4 rfl rfl)
theorem dX2_join_97 : decode cX2_join 97 = .ok (.iadd, 1) := dk_96 (dk_at dksX2_join_4 5 rfl rfl)
theorem dX2_join_98 : decode cX2_join 98 = .ok (.aload_n 0, 1) := dk_42 (dk_at dksX2_join_4 6 rfl rfl)
theorem dX2_join_99 : decode cX2_join 99 = .ok (.iconst 0, 1) := dk_3 (dk_at dksX2_join_4 7 rfl rfl)
theorem dX2_join_100 : decode cX2_join 100 = .ok (.iload_n 2, 1) := dk_28 (dk_at dksX2_join_4 8 rfl rfl)
theorem dX2_join_101 : decode cX2_join 101 = .ok (.invokevirtual 111, 3) := dk_182 0 111 (dk_at dksX2_join_4 9 rfl rfl)
theorem dX2_join_104 : decode cX2_join 104 = .ok (.iastore, 1) := dk_79 (dk_at dksX2_join_4 12 rfl rfl)
theorem dX2_join_105 : decode cX2_join 105 = .ok (.aload_n 0, 1) := dk_42 (dk_at dksX2_join_4 13 rfl rfl)
theorem dX2_join_106 : decode cX2_join 106 = .ok (.getfield 7, 3) := dk_180 0 7 (dk_at dksX2_join_4 14 rfl rfl)
theorem dX2_join_109 : decode cX2_join 109 = .ok (.bipush 19, 2) := dk_16 19 (dk_at dksX2_join_4 17 rfl rfl)
theorem dX2_join_111 : decode cX2_join 111 = .ok (.iload_n 1, 1) := dk_27 (dk_at dksX2_join_4 19 rfl rfl)
theorem dX2_join_112 : decode cX2_join 112 = .ok (.iadd, 1) := dk_96 (dk_at dksX2_join_4 20 rfl rfl)
theorem dX2_join_113 : decode cX2_join 113 = .ok (.iconst 0, 1) := dk_3 (dk_at dksX2_join_4 21 rfl rfl)
theorem dX2_join_114 : decode cX2_join 114 = .ok (.iastore, 1) := dk_79 (dk_at dksX2_join_4 22 rfl rfl)
theorem dX2_join_115 : decode cX2_join 115 = .ok (.aload_n 0, 1) := dk_42 (dk_at dksX2_join_4 23 rfl rfl)
theorem dX2_join_116 : decode cX2_join 116 = .ok (.getfield 7, 3) := dk_180 0 7 (dk_at dksX2_join_5 0 rfl rfl)
theorem dX2_join_119 : decode cX2_join 119 = .ok (.bipush 35, 2) := dk_16 35 (dk_at dksX2_join_5 3 rfl rfl)
theorem dX2_join_121 : decode cX2_join 121 = .ok (.iload_n 1, 1) := dk_27 (dk_at dksX2_join_5 5 rfl rfl)
theorem dX2_join_122 : decode cX2_join 122 = .ok (.iadd, 1) := dk_96 (dk_at dksX2_join_5 6 rfl rfl)
theorem dX2_join_123 : decode cX2_join 123 = .ok (.iconst 0, 1) := dk_3 (dk_at dksX2_join_5 7 rfl rfl)
theorem dX2_join_124 : decode cX2_join 124 = .ok (.iastore, 1) := dk_79 (dk_at dksX2_join_5 8 rfl rfl)
theorem dX2_join_125 : decode cX2_join 125 = .ok (.iconst 0, 1) := dk_3 (dk_at dksX2_join_5 9 rfl rfl)
theorem dX2_join_126 : decode cX2_join 126 = .ok (.istore_n 3, 1) := dk_62 (dk_at dksX2_join_5 10 rfl rfl)
theorem dX2_join_127 : decode cX2_join 127 = .ok (.iload_n 3, 1) := dk_29 (dk_at dksX2_join_5 11 rfl rfl)
theorem dX2_join_128 : decode cX2_join 128 = .ok (.aload_n 0, 1) := dk_42 (dk_at dksX2_join_5 12 rfl rfl)
theorem dX2_join_129 : decode cX2_join 129 = .ok (.getfield 7, 3) := dk_180 0 7 (dk_at dksX2_join_5 13 rfl rfl)
theorem dX2_join_132 : decode cX2_join 132 = .ok (.sipush 171, 3) := dk_17 0 171 (dk_at dksX2_join_5 16 rfl rfl)
theorem dX2_join_135 : decode cX2_join 135 = .ok (.iaload, 1) := dk_46 (dk_at dksX2_join_5 19 rfl rfl)
theorem dX2_join_136 : decode cX2_join 136 = .ok (.if_icmp .ge 80, 3) := dk_162 0 80 (dk_at dksX2_join_5 20 rfl rfl)
theorem dX2_join_139 : decode cX2_join 139 = .ok (.aload_n 0, 1) := dk_42 (dk_at dksX2_join_5 23 rfl rfl)
theorem dX2_join_140 : decode cX2_join 140 = .ok (.getfield 7, 3) := dk_180 0 7 (dk_at dksX2_join_6 0 rfl rfl)
theorem dX2_join_143 : decode cX2_join 143 = .ok (.sipush 172, 3) := dk_17 0 172 (dk_at dksX2_join_6 3 rfl rfl)
theorem dX2_join_146 : decode cX2_join 146 = .ok (.iload_n 3, 1) := dk_29 (dk_at dksX2_join_6 6 rfl rfl)
theorem dX2_join_147 : decode cX2_join 147 = .ok (.iadd, 1) := dk_96 (dk_at dksX2_join_6 7 rfl rfl)
theorem dX2_join_148 : decode cX2_join 148 = .ok (.iaload, 1) := dk_46 (dk_at dksX2_join_6 8 rfl rfl)
theorem dX2_join_149 : decode cX2_join 149 = .ok (.iload_n 1, 1) := dk_27 (dk_at dksX2_join_6 9 rfl rfl)
theorem dX2_join_150 : decode cX2_join 150 = .ok (.if_icmp .ne 28, 3) := dk_160 0 28 (dk_at dksX2_join_6 10 rfl rfl)
theorem dX2_join_153 : decode cX2_join 153 = .ok (.aload_n 0, 1) := dk_42 (dk_at dksX2_join_6 13 rfl rfl)
theorem dX2_join_154 : decode cX2_join 154 = .ok (.getfield 7, 3) := dk_180 0 7 (dk_at dksX2_join_6 14 rfl rfl)
theorem dX2_join_157 : decode cX2_join 157 = .ok (.iconst 3, 1) := dk_6 (dk_at dksX2_join_6 17 rfl rfl)
theorem dX2_join_158 : decode cX2_join 158 = .ok (.iload_n 1, 1) := dk_27 (dk_at dksX2_join_6 18 rfl rfl)
theorem dX2_join_159 : decode cX2_join 159 = .ok (.iadd, 1) := dk_96 (dk_at dksX2_join_6 19 rfl rfl)
theorem dX2_join_160 : decode cX2_join 160 = .ok (.iaload, 1) := dk_46 (dk_at dksX2_join_6 20 rfl rfl)
theorem dX2_join_161 : decode cX2_join 161 = .ok (.aload_n 0, 1) := dk_42 (dk_at dksX2_join_6 21 rfl rfl)
theorem dX2_join_162 : decode cX2_join 162 = .ok (.getfield 7, 3) := dk_180 0 7 (dk_at dksX2_join_7 0 rfl rfl)
theorem dX2_join_165 : decode cX2_join 165 = .ok (.sipush 178, 3) := dk_17 0 178 (dk_at dksX2_join_7 3 rfl rfl)
theorem dX2_join_168 : decode cX2_join 168 = .ok (.iload_n 3, 1) := dk_29 (dk_at dksX2_join_7 6 rfl rfl)
theorem dX2_join_169 : decode cX2_join 169 = .ok (.iadd, 1) := dk_96 (dk_at dksX2_join_7 7 rfl rfl)
theorem dX2_join_170 : decode cX2_join 170 = .ok (.iaload, 1) := dk_46 (dk_at dksX2_join_7 8 rfl rfl)
theorem dX2_join_171 : decode cX2_join 171 = .ok (.if_icmp .lt 7, 3) := dk_161 0 7 (dk_at dksX2_join_7 9 rfl rfl)
theorem dX2_join_174 : decode cX2_join 174 = .ok (.iconst 1, 1) := dk_4 (dk_at dksX2_join_7 12 rfl rfl)
theorem dX2_join_175 : decode cX2_join 175 = .ok (.goto 4, 3) := dk_167 0 4 (dk_at dksX2_join_7 13 rfl rfl)
theorem dX2_join_178 : decode cX2_join 178 = .ok (.iconst 0, 1) := dk_3 (dk_at dksX2_join_7 16 rfl rfl)
theorem dX2_join_179 : decode cX2_join 179 = .ok (.istore 4, 2) := dk_54 4 (dk_at dksX2_join_7 17 rfl rfl)
theorem dX2_join_181 : decode cX2_join 181 = .ok (.aload_n 0, 1) := dk_42 (dk_at dksX2_join_7 19 rfl rfl)
theorem dX2_join_182 : decode cX2_join 182 = .ok (.getfield 7, 3) := dk_180 0 7 (dk_at dksX2_join_7 20 rfl rfl)
theorem dX2_join_185 : decode cX2_join 185 = .ok (.sipush 184, 3) := dk_17 0 184 (dk_at dksX2_join_8 0 rfl rfl)
theorem dX2_join_188 : decode cX2_join 188 = .ok (.iload_n 3, 1) := dk_29 (dk_at dksX2_join_8 3 rfl rfl)
theorem dX2_join_189 : decode cX2_join 189 = .ok (.iadd, 1) := dk_96 (dk_at dksX2_join_8 4 rfl rfl)
theorem dX2_join_190 : decode cX2_join 190 = .ok (.iload 4, 2) := dk_21 4 (dk_at dksX2_join_8 5 rfl rfl)
theorem dX2_join_192 : decode cX2_join 192 = .ok (.ifCond .eq 7, 3) := dk_153 0 7 (dk_at dksX2_join_8 7 rfl rfl)
theorem dX2_join_195 : decode cX2_join 195 = .ok (.iconst 1, 1) := dk_4 (dk_at dksX2_join_8 10 rfl rfl)
theorem dX2_join_196 : decode cX2_join 196 = .ok (.goto 13, 3) := dk_167 0 13 (dk_at dksX2_join_8 11 rfl rfl)
theorem dX2_join_199 : decode cX2_join 199 = .ok (.aload_n 0, 1) := dk_42 (dk_at dksX2_join_8 14 rfl rfl)
theorem dX2_join_200 : decode cX2_join 200 = .ok (.getfield 7, 3) := dk_180 0 7 (dk_at dksX2_join_8 15 rfl rfl)
theorem dX2_join_203 : decode cX2_join 203 = .ok (.sipush 184, 3) := dk_17 0 184 (dk_at dksX2_join_8 18 rfl rfl)
theorem dX2_join_206 : decode cX2_join 206 = .ok (.iload_n 3, 1) := dk_29 (dk_at dksX2_join_8 21 rfl rfl)
theorem dX2_join_207 : decode cX2_join 207 = .ok (.iadd, 1) := dk_96 (dk_at dksX2_join_8 22 rfl rfl)
theorem dX2_join_208 : decode cX2_join 208 = .ok (.iaload, 1) := dk_46 (dk_at dksX2_join_8 23 rfl rfl)
theorem dX2_join_209 : decode cX2_join 209 = .ok (.iastore, 1) := dk_79 (dk_at dksX2_join_9 0 rfl rfl)
theorem dX2_join_210 : decode cX2_join 210 = .ok (.iinc 3 1, 3) := dk_132 3 1 (dk_at dksX2_join_9 1 rfl rfl)
theorem dX2_join_213 : decode cX2_join 213 = .ok (.goto (-86), 3) := dk_167 255 170 (dk_at dksX2_join_9 4 rfl rfl)
theorem dX2_join_216 : decode cX2_join 216 = .ok (.aload_n 0, 1) := dk_42 (dk_at dksX2_join_9 7 rfl rfl)
theorem dX2_join_217 : decode cX2_join 217 = .ok (.getfield 7, 3) := dk_180 0 7 (dk_at dksX2_join_9 8 rfl rfl)
theorem dX2_join_220 : decode cX2_join 220 = .ok (.iconst 3, 1) := dk_6 (dk_at dksX2_join_9 11 rfl rfl)
theorem dX2_join_221 : decode cX2_join 221 = .ok (.iload_n 1, 1) := dk_27 (dk_at dksX2_join_9 12 rfl rfl)
theorem dX2_join_222 : decode cX2_join 222 = .ok (.iadd, 1) := dk_96 (dk_at dksX2_join_9 13 rfl rfl)
theorem dX2_join_223 : decode cX2_join 223 = .ok (.iaload, 1) := dk_46 (dk_at dksX2_join_9 14 rfl rfl)
theorem dX2_join_224 : decode cX2_join 224 = .ok (.ireturn, 1) := dk_172 (dk_at dksX2_join_9 15 rfl rfl)
abbrev cX2_alarm : ByteArray := prog_12_method_51_code
def yX2_alarm : MethodName := ⟨RX2, "alarm", "(II)I"⟩
def dkwX2_alarm_4 : List UInt8 := [4, 167, 0, 4, 3, 79, 42, 180, 0, 7, 17, 0, 171, 92, 46, 4, 96, 79, 29, 172]
abbrev dktX2_alarm_4 : List UInt8 := dkwX2_alarm_4 ++ []
def dkwX2_alarm_3 : List UInt8 := [96, 28, 79, 42, 180, 0, 7, 17, 0, 184, 29, 96, 42, 180, 0, 7, 6, 27, 96, 46, 28, 161, 0, 7]
abbrev dktX2_alarm_3 : List UInt8 := dkwX2_alarm_3 ++ dktX2_alarm_4
def dkwX2_alarm_2 : List UInt8 := [17, 0, 171, 46, 62, 42, 180, 0, 7, 17, 0, 172, 29, 96, 27, 79, 42, 180, 0, 7, 17, 0, 178, 29]
abbrev dktX2_alarm_2 : List UInt8 := dkwX2_alarm_2 ++ dktX2_alarm_3
def dkwX2_alarm_1 : List UInt8 := [42, 180, 0, 7, 17, 0, 171, 46, 16, 6, 160, 0, 6, 18, 40, 172, 42, 182, 0, 166, 42, 180, 0, 7]
abbrev dktX2_alarm_1 : List UInt8 := dkwX2_alarm_1 ++ dktX2_alarm_2
def dkwX2_alarm_0 : List UInt8 := [42, 27, 182, 0, 136, 154, 0, 6, 18, 155, 172, 28, 3, 18, 179, 184, 0, 32, 154, 0, 6, 18, 36, 172]
abbrev dktX2_alarm_0 : List UInt8 := dkwX2_alarm_0 ++ dktX2_alarm_1
theorem dksX2_alarm_0 : cX2_alarm.data.toList.drop 0 = dktX2_alarm_0 := by decide +kernel
theorem dksX2_alarm_1 : cX2_alarm.data.toList.drop 24 = dktX2_alarm_1 := dk_seg dksX2_alarm_0 24 rfl rfl
theorem dksX2_alarm_2 : cX2_alarm.data.toList.drop 48 = dktX2_alarm_2 := dk_seg dksX2_alarm_1 24 rfl rfl
theorem dksX2_alarm_3 : cX2_alarm.data.toList.drop 72 = dktX2_alarm_3 := dk_seg dksX2_alarm_2 24 rfl rfl
theorem dksX2_alarm_4 : cX2_alarm.data.toList.drop 96 = dktX2_alarm_4 := dk_seg dksX2_alarm_3 24 rfl rfl
theorem dX2_alarm_0 : decode cX2_alarm 0 = .ok (.aload_n 0, 1) := dk_42 (dk_at dksX2_alarm_0 0 rfl rfl)
theorem dX2_alarm_1 : decode cX2_alarm 1 = .ok (.iload_n 1, 1) := dk_27 (dk_at dksX2_alarm_0 1 rfl rfl)
theorem dX2_alarm_2 : decode cX2_alarm 2 = .ok (.invokevirtual 136, 3) := dk_182 0 136 (dk_at dksX2_alarm_0 2 rfl rfl)
theorem dX2_alarm_5 : decode cX2_alarm 5 = .ok (.ifCond .ne 6, 3) := dk_154 0 6 (dk_at dksX2_alarm_0 5 rfl rfl)
theorem dX2_alarm_8 : decode cX2_alarm 8 = .ok (.ldc 155, 2) := dk_18 155 (dk_at dksX2_alarm_0 8 rfl rfl)
theorem dX2_alarm_10 : decode cX2_alarm 10 = .ok (.ireturn, 1) := dk_172 (dk_at dksX2_alarm_0 10 rfl rfl)
theorem dX2_alarm_11 : decode cX2_alarm 11 = .ok (.iload_n 2, 1) := dk_28 (dk_at dksX2_alarm_0 11 rfl rfl)
theorem dX2_alarm_12 : decode cX2_alarm 12 = .ok (.iconst 0, 1) := dk_3 (dk_at dksX2_alarm_0 12 rfl rfl)
theorem dX2_alarm_13 : decode cX2_alarm 13 = .ok (.ldc 179, 2) := dk_18 179 (dk_at dksX2_alarm_0 13 rfl rfl)
theorem dX2_alarm_15 : decode cX2_alarm 15 = .ok (.invokestatic 32, 3) := dk_184 0 32 (dk_at dksX2_alarm_0 15 rfl rfl)
theorem dX2_alarm_18 : decode cX2_alarm 18 = .ok (.ifCond .ne 6, 3) := dk_154 0 6 (dk_at dksX2_alarm_0 18 rfl rfl)
theorem dX2_alarm_21 : decode cX2_alarm 21 = .ok (.ldc 36, 2) := dk_18 36 (dk_at dksX2_alarm_0 21 rfl rfl)
theorem dX2_alarm_23 : decode cX2_alarm 23 = .ok (.ireturn, 1) := dk_172 (dk_at dksX2_alarm_0 23 rfl rfl)
theorem dX2_alarm_24 : decode cX2_alarm 24 = .ok (.aload_n 0, 1) := dk_42 (dk_at dksX2_alarm_1 0 rfl rfl)
theorem dX2_alarm_25 : decode cX2_alarm 25 = .ok (.getfield 7, 3) := dk_180 0 7 (dk_at dksX2_alarm_1 1 rfl rfl)
theorem dX2_alarm_28 : decode cX2_alarm 28 = .ok (.sipush 171, 3) := dk_17 0 171 (dk_at dksX2_alarm_1 4 rfl rfl)
theorem dX2_alarm_31 : decode cX2_alarm 31 = .ok (.iaload, 1) := dk_46 (dk_at dksX2_alarm_1 7 rfl rfl)
theorem dX2_alarm_32 : decode cX2_alarm 32 = .ok (.bipush 6, 2) := dk_16 6 (dk_at dksX2_alarm_1 8 rfl rfl)
theorem dX2_alarm_34 : decode cX2_alarm 34 = .ok (.if_icmp .ne 6, 3) := dk_160 0 6 (dk_at dksX2_alarm_1 10 rfl rfl)
theorem dX2_alarm_37 : decode cX2_alarm 37 = .ok (.ldc 40, 2) := dk_18 40 (dk_at dksX2_alarm_1 13 rfl rfl)
theorem dX2_alarm_39 : decode cX2_alarm 39 = .ok (.ireturn, 1) := dk_172 (dk_at dksX2_alarm_1 15 rfl rfl)
theorem dX2_alarm_40 : decode cX2_alarm 40 = .ok (.aload_n 0, 1) := dk_42 (dk_at dksX2_alarm_1 16 rfl rfl)
theorem dX2_alarm_41 : decode cX2_alarm 41 = .ok (.invokevirtual 166, 3) := dk_182 0 166 (dk_at dksX2_alarm_1 17 rfl rfl)
theorem dX2_alarm_44 : decode cX2_alarm 44 = .ok (.aload_n 0, 1) := dk_42 (dk_at dksX2_alarm_1 20 rfl rfl)
theorem dX2_alarm_45 : decode cX2_alarm 45 = .ok (.getfield 7, 3) := dk_180 0 7 (dk_at dksX2_alarm_1 21 rfl rfl)
theorem dX2_alarm_48 : decode cX2_alarm 48 = .ok (.sipush 171, 3) := dk_17 0 171 (dk_at dksX2_alarm_2 0 rfl rfl)
theorem dX2_alarm_51 : decode cX2_alarm 51 = .ok (.iaload, 1) := dk_46 (dk_at dksX2_alarm_2 3 rfl rfl)
theorem dX2_alarm_52 : decode cX2_alarm 52 = .ok (.istore_n 3, 1) := dk_62 (dk_at dksX2_alarm_2 4 rfl rfl)
theorem dX2_alarm_53 : decode cX2_alarm 53 = .ok (.aload_n 0, 1) := dk_42 (dk_at dksX2_alarm_2 5 rfl rfl)
theorem dX2_alarm_54 : decode cX2_alarm 54 = .ok (.getfield 7, 3) := dk_180 0 7 (dk_at dksX2_alarm_2 6 rfl rfl)
theorem dX2_alarm_57 : decode cX2_alarm 57 = .ok (.sipush 172, 3) := dk_17 0 172 (dk_at dksX2_alarm_2 9 rfl rfl)
theorem dX2_alarm_60 : decode cX2_alarm 60 = .ok (.iload_n 3, 1) := dk_29 (dk_at dksX2_alarm_2 12 rfl rfl)
theorem dX2_alarm_61 : decode cX2_alarm 61 = .ok (.iadd, 1) := dk_96 (dk_at dksX2_alarm_2 13 rfl rfl)
theorem dX2_alarm_62 : decode cX2_alarm 62 = .ok (.iload_n 1, 1) := dk_27 (dk_at dksX2_alarm_2 14 rfl rfl)
theorem dX2_alarm_63 : decode cX2_alarm 63 = .ok (.iastore, 1) := dk_79 (dk_at dksX2_alarm_2 15 rfl rfl)
theorem dX2_alarm_64 : decode cX2_alarm 64 = .ok (.aload_n 0, 1) := dk_42 (dk_at dksX2_alarm_2 16 rfl rfl)
theorem dX2_alarm_65 : decode cX2_alarm 65 = .ok (.getfield 7, 3) := dk_180 0 7 (dk_at dksX2_alarm_2 17 rfl rfl)
theorem dX2_alarm_68 : decode cX2_alarm 68 = .ok (.sipush 178, 3) := dk_17 0 178 (dk_at dksX2_alarm_2 20 rfl rfl)
theorem dX2_alarm_71 : decode cX2_alarm 71 = .ok (.iload_n 3, 1) := dk_29 (dk_at dksX2_alarm_2 23 rfl rfl)
theorem dX2_alarm_72 : decode cX2_alarm 72 = .ok (.iadd, 1) := dk_96 (dk_at dksX2_alarm_3 0 rfl rfl)
theorem dX2_alarm_73 : decode cX2_alarm 73 = .ok (.iload_n 2, 1) := dk_28 (dk_at dksX2_alarm_3 1 rfl rfl)
theorem dX2_alarm_74 : decode cX2_alarm 74 = .ok (.iastore, 1) := dk_79 (dk_at dksX2_alarm_3 2 rfl rfl)
theorem dX2_alarm_75 : decode cX2_alarm 75 = .ok (.aload_n 0, 1) := dk_42 (dk_at dksX2_alarm_3 3 rfl rfl)
theorem dX2_alarm_76 : decode cX2_alarm 76 = .ok (.getfield 7, 3) := dk_180 0 7 (dk_at dksX2_alarm_3 4 rfl rfl)
theorem dX2_alarm_79 : decode cX2_alarm 79 = .ok (.sipush 184, 3) := dk_17 0 184 (dk_at dksX2_alarm_3 7 rfl rfl)
theorem dX2_alarm_82 : decode cX2_alarm 82 = .ok (.iload_n 3, 1) := dk_29 (dk_at dksX2_alarm_3 10 rfl rfl)
theorem dX2_alarm_83 : decode cX2_alarm 83 = .ok (.iadd, 1) := dk_96 (dk_at dksX2_alarm_3 11 rfl rfl)
theorem dX2_alarm_84 : decode cX2_alarm 84 = .ok (.aload_n 0, 1) := dk_42 (dk_at dksX2_alarm_3 12 rfl rfl)
theorem dX2_alarm_85 : decode cX2_alarm 85 = .ok (.getfield 7, 3) := dk_180 0 7 (dk_at dksX2_alarm_3 13 rfl rfl)
theorem dX2_alarm_88 : decode cX2_alarm 88 = .ok (.iconst 3, 1) := dk_6 (dk_at dksX2_alarm_3 16 rfl rfl)
theorem dX2_alarm_89 : decode cX2_alarm 89 = .ok (.iload_n 1, 1) := dk_27 (dk_at dksX2_alarm_3 17 rfl rfl)
theorem dX2_alarm_90 : decode cX2_alarm 90 = .ok (.iadd, 1) := dk_96 (dk_at dksX2_alarm_3 18 rfl rfl)
theorem dX2_alarm_91 : decode cX2_alarm 91 = .ok (.iaload, 1) := dk_46 (dk_at dksX2_alarm_3 19 rfl rfl)
theorem dX2_alarm_92 : decode cX2_alarm 92 = .ok (.iload_n 2, 1) := dk_28 (dk_at dksX2_alarm_3 20 rfl rfl)
theorem dX2_alarm_93 : decode cX2_alarm 93 = .ok (.if_icmp .lt 7, 3) := dk_161 0 7 (dk_at dksX2_alarm_3 21 rfl rfl)
theorem dX2_alarm_96 : decode cX2_alarm 96 = .ok (.iconst 1, 1) := dk_4 (dk_at dksX2_alarm_4 0 rfl rfl)
theorem dX2_alarm_97 : decode cX2_alarm 97 = .ok (.goto 4, 3) := dk_167 0 4 (dk_at dksX2_alarm_4 1 rfl rfl)
theorem dX2_alarm_100 : decode cX2_alarm 100 = .ok (.iconst 0, 1) := dk_3 (dk_at dksX2_alarm_4 4 rfl rfl)
theorem dX2_alarm_101 : decode cX2_alarm 101 = .ok (.iastore, 1) := dk_79 (dk_at dksX2_alarm_4 5 rfl rfl)
theorem dX2_alarm_102 : decode cX2_alarm 102 = .ok (.aload_n 0, 1) := dk_42 (dk_at dksX2_alarm_4 6 rfl rfl)
theorem dX2_alarm_103 : decode cX2_alarm 103 = .ok (.getfield 7, 3) := dk_180 0 7 (dk_at dksX2_alarm_4 7 rfl rfl)
theorem dX2_alarm_106 : decode cX2_alarm 106 = .ok (.sipush 171, 3) := dk_17 0 171 (dk_at dksX2_alarm_4 10 rfl rfl)
theorem dX2_alarm_109 : decode cX2_alarm 109 = .ok (.dup2, 1) := dk_92 (dk_at dksX2_alarm_4 13 rfl rfl)
theorem dX2_alarm_110 : decode cX2_alarm 110 = .ok (.iaload, 1) := dk_46 (dk_at dksX2_alarm_4 14 rfl rfl)
theorem dX2_alarm_111 : decode cX2_alarm 111 = .ok (.iconst 1, 1) := dk_4 (dk_at dksX2_alarm_4 15 rfl rfl)
theorem dX2_alarm_112 : decode cX2_alarm 112 = .ok (.iadd, 1) := dk_96 (dk_at dksX2_alarm_4 16 rfl rfl)
theorem dX2_alarm_113 : decode cX2_alarm 113 = .ok (.iastore, 1) := dk_79 (dk_at dksX2_alarm_4 17 rfl rfl)
theorem dX2_alarm_114 : decode cX2_alarm 114 = .ok (.iload_n 3, 1) := dk_29 (dk_at dksX2_alarm_4 18 rfl rfl)
theorem dX2_alarm_115 : decode cX2_alarm 115 = .ok (.ireturn, 1) := dk_172 (dk_at dksX2_alarm_4 19 rfl rfl)
abbrev cX2_drift : ByteArray := prog_12_method_54_code
def yX2_drift : MethodName := ⟨RX2, "drift", "(I)I"⟩
def dkwX2_drift_2 : List UInt8 := [172]
abbrev dktX2_drift_2 : List UInt8 := dkwX2_drift_2 ++ []
def dkwX2_drift_1 : List UInt8 := [3, 46, 158, 0, 17, 42, 182, 0, 166, 42, 182, 0, 190, 132, 2, 1, 167, 255, 231, 42, 3, 182, 0, 123]
abbrev dktX2_drift_1 : List UInt8 := dkwX2_drift_1 ++ dktX2_drift_2
def dkwX2_drift_0 : List UInt8 := [27, 4, 16, 16, 184, 0, 32, 154, 0, 6, 18, 36, 172, 3, 61, 28, 27, 162, 0, 26, 42, 180, 0, 7]
abbrev dktX2_drift_0 : List UInt8 := dkwX2_drift_0 ++ dktX2_drift_1
theorem dksX2_drift_0 : cX2_drift.data.toList.drop 0 = dktX2_drift_0 := by decide +kernel
theorem dksX2_drift_1 : cX2_drift.data.toList.drop 24 = dktX2_drift_1 := dk_seg dksX2_drift_0 24 rfl rfl
theorem dksX2_drift_2 : cX2_drift.data.toList.drop 48 = dktX2_drift_2 := dk_seg dksX2_drift_1 24 rfl rfl
theorem dX2_drift_0 : decode cX2_drift 0 = .ok (.iload_n 1, 1) := dk_27 (dk_at dksX2_drift_0 0 rfl rfl)
theorem dX2_drift_1 : decode cX2_drift 1 = .ok (.iconst 1, 1) := dk_4 (dk_at dksX2_drift_0 1 rfl rfl)
theorem dX2_drift_2 : decode cX2_drift 2 = .ok (.bipush 16, 2) := dk_16 16 (dk_at dksX2_drift_0 2 rfl rfl)
theorem dX2_drift_4 : decode cX2_drift 4 = .ok (.invokestatic 32, 3) := dk_184 0 32 (dk_at dksX2_drift_0 4 rfl rfl)
theorem dX2_drift_7 : decode cX2_drift 7 = .ok (.ifCond .ne 6, 3) := dk_154 0 6 (dk_at dksX2_drift_0 7 rfl rfl)
theorem dX2_drift_10 : decode cX2_drift 10 = .ok (.ldc 36, 2) := dk_18 36 (dk_at dksX2_drift_0 10 rfl rfl)
theorem dX2_drift_12 : decode cX2_drift 12 = .ok (.ireturn, 1) := dk_172 (dk_at dksX2_drift_0 12 rfl rfl)
theorem dX2_drift_13 : decode cX2_drift 13 = .ok (.iconst 0, 1) := dk_3 (dk_at dksX2_drift_0 13 rfl rfl)
theorem dX2_drift_14 : decode cX2_drift 14 = .ok (.istore_n 2, 1) := dk_61 (dk_at dksX2_drift_0 14 rfl rfl)
theorem dX2_drift_15 : decode cX2_drift 15 = .ok (.iload_n 2, 1) := dk_28 (dk_at dksX2_drift_0 15 rfl rfl)
theorem dX2_drift_16 : decode cX2_drift 16 = .ok (.iload_n 1, 1) := dk_27 (dk_at dksX2_drift_0 16 rfl rfl)
theorem dX2_drift_17 : decode cX2_drift 17 = .ok (.if_icmp .ge 26, 3) := dk_162 0 26 (dk_at dksX2_drift_0 17 rfl rfl)
theorem dX2_drift_20 : decode cX2_drift 20 = .ok (.aload_n 0, 1) := dk_42 (dk_at dksX2_drift_0 20 rfl rfl)
theorem dX2_drift_21 : decode cX2_drift 21 = .ok (.getfield 7, 3) := dk_180 0 7 (dk_at dksX2_drift_0 21 rfl rfl)
theorem dX2_drift_24 : decode cX2_drift 24 = .ok (.iconst 0, 1) := dk_3 (dk_at dksX2_drift_1 0 rfl rfl)
theorem dX2_drift_25 : decode cX2_drift 25 = .ok (.iaload, 1) := dk_46 (dk_at dksX2_drift_1 1 rfl rfl)
theorem dX2_drift_26 : decode cX2_drift 26 = .ok (.ifCond .le 17, 3) := dk_158 0 17 (dk_at dksX2_drift_1 2 rfl rfl)
theorem dX2_drift_29 : decode cX2_drift 29 = .ok (.aload_n 0, 1) := dk_42 (dk_at dksX2_drift_1 5 rfl rfl)
theorem dX2_drift_30 : decode cX2_drift 30 = .ok (.invokevirtual 166, 3) := dk_182 0 166 (dk_at dksX2_drift_1 6 rfl rfl)
theorem dX2_drift_33 : decode cX2_drift 33 = .ok (.aload_n 0, 1) := dk_42 (dk_at dksX2_drift_1 9 rfl rfl)
theorem dX2_drift_34 : decode cX2_drift 34 = .ok (.invokevirtual 190, 3) := dk_182 0 190 (dk_at dksX2_drift_1 10 rfl rfl)
theorem dX2_drift_37 : decode cX2_drift 37 = .ok (.iinc 2 1, 3) := dk_132 2 1 (dk_at dksX2_drift_1 13 rfl rfl)
theorem dX2_drift_40 : decode cX2_drift 40 = .ok (.goto (-25), 3) := dk_167 255 231 (dk_at dksX2_drift_1 16 rfl rfl)
theorem dX2_drift_43 : decode cX2_drift 43 = .ok (.aload_n 0, 1) := dk_42 (dk_at dksX2_drift_1 19 rfl rfl)
theorem dX2_drift_44 : decode cX2_drift 44 = .ok (.iconst 0, 1) := dk_3 (dk_at dksX2_drift_1 20 rfl rfl)
theorem dX2_drift_45 : decode cX2_drift 45 = .ok (.invokevirtual 123, 3) := dk_182 0 123 (dk_at dksX2_drift_1 21 rfl rfl)
theorem dX2_drift_48 : decode cX2_drift 48 = .ok (.ireturn, 1) := dk_172 (dk_at dksX2_drift_2 0 rfl rfl)
abbrev cX2_time : ByteArray := prog_12_method_53_code
def yX2_time : MethodName := ⟨RX2, "time", "()V"⟩
def dkwX2_time_4 : List UInt8 := [182, 0, 172, 167, 0, 7, 42, 182, 0, 169, 177]
abbrev dktX2_time_4 : List UInt8 := dkwX2_time_4 ++ []
def dkwX2_time_3 : List UInt8 := [79, 42, 180, 0, 7, 16, 43, 16, 8, 27, 104, 96, 28, 96, 21, 4, 79, 21, 5, 154, 0, 11, 42, 3]
abbrev dktX2_time_3 : List UInt8 := dkwX2_time_3 ++ dktX2_time_4
def dkwX2_time_2 : List UInt8 := [182, 0, 187, 54, 5, 27, 28, 159, 0, 34, 42, 180, 0, 7, 16, 107, 16, 8, 27, 104, 96, 28, 96, 29]
abbrev dktX2_time_2 : List UInt8 := dkwX2_time_2 ++ dktX2_time_3
def dkwX2_time_1 : List UInt8 := [17, 7, 209, 182, 0, 187, 17, 3, 232, 100, 62, 42, 16, 41, 182, 0, 187, 16, 20, 100, 54, 4, 42, 6]
abbrev dktX2_time_1 : List UInt8 := dkwX2_time_1 ++ dktX2_time_2
def dkwX2_time_0 : List UInt8 := [42, 42, 180, 0, 7, 3, 46, 182, 0, 187, 60, 42, 42, 180, 0, 7, 3, 46, 182, 0, 187, 61, 42]
abbrev dktX2_time_0 : List UInt8 := dkwX2_time_0 ++ dktX2_time_1
theorem dksX2_time_0 : cX2_time.data.toList.drop 0 = dktX2_time_0 := by decide +kernel
theorem dksX2_time_1 : cX2_time.data.toList.drop 23 = dktX2_time_1 := dk_seg dksX2_time_0 23 rfl rfl
theorem dksX2_time_2 : cX2_time.data.toList.drop 47 = dktX2_time_2 := dk_seg dksX2_time_1 24 rfl rfl
theorem dksX2_time_3 : cX2_time.data.toList.drop 71 = dktX2_time_3 := dk_seg dksX2_time_2 24 rfl rfl
theorem dksX2_time_4 : cX2_time.data.toList.drop 95 = dktX2_time_4 := dk_seg dksX2_time_3 24 rfl rfl
theorem dX2_time_0 : decode cX2_time 0 = .ok (.aload_n 0, 1) := dk_42 (dk_at dksX2_time_0 0 rfl rfl)
theorem dX2_time_1 : decode cX2_time 1 = .ok (.aload_n 0, 1) := dk_42 (dk_at dksX2_time_0 1 rfl rfl)
theorem dX2_time_2 : decode cX2_time 2 = .ok (.getfield 7, 3) := dk_180 0 7 (dk_at dksX2_time_0 2 rfl rfl)
theorem dX2_time_5 : decode cX2_time 5 = .ok (.iconst 0, 1) := dk_3 (dk_at dksX2_time_0 5 rfl rfl)
theorem dX2_time_6 : decode cX2_time 6 = .ok (.iaload, 1) := dk_46 (dk_at dksX2_time_0 6 rfl rfl)
theorem dX2_time_7 : decode cX2_time 7 = .ok (.invokevirtual 187, 3) := dk_182 0 187 (dk_at dksX2_time_0 7 rfl rfl)
theorem dX2_time_10 : decode cX2_time 10 = .ok (.istore_n 1, 1) := dk_60 (dk_at dksX2_time_0 10 rfl rfl)
theorem dX2_time_11 : decode cX2_time 11 = .ok (.aload_n 0, 1) := dk_42 (dk_at dksX2_time_0 11 rfl rfl)
theorem dX2_time_12 : decode cX2_time 12 = .ok (.aload_n 0, 1) := dk_42 (dk_at dksX2_time_0 12 rfl rfl)
theorem dX2_time_13 : decode cX2_time 13 = .ok (.getfield 7, 3) := dk_180 0 7 (dk_at dksX2_time_0 13 rfl rfl)
theorem dX2_time_16 : decode cX2_time 16 = .ok (.iconst 0, 1) := dk_3 (dk_at dksX2_time_0 16 rfl rfl)
theorem dX2_time_17 : decode cX2_time 17 = .ok (.iaload, 1) := dk_46 (dk_at dksX2_time_0 17 rfl rfl)
theorem dX2_time_18 : decode cX2_time 18 = .ok (.invokevirtual 187, 3) := dk_182 0 187 (dk_at dksX2_time_0 18 rfl rfl)
theorem dX2_time_21 : decode cX2_time 21 = .ok (.istore_n 2, 1) := dk_61 (dk_at dksX2_time_0 21 rfl rfl)
theorem dX2_time_22 : decode cX2_time 22 = .ok (.aload_n 0, 1) := dk_42 (dk_at dksX2_time_0 22 rfl rfl)
theorem dX2_time_23 : decode cX2_time 23 = .ok (.sipush 2001, 3) := dk_17 7 209 (dk_at dksX2_time_1 0 rfl rfl)
theorem dX2_time_26 : decode cX2_time 26 = .ok (.invokevirtual 187, 3) := dk_182 0 187 (dk_at dksX2_time_1 3 rfl rfl)
theorem dX2_time_29 : decode cX2_time 29 = .ok (.sipush 1000, 3) := dk_17 3 232 (dk_at dksX2_time_1 6 rfl rfl)
theorem dX2_time_32 : decode cX2_time 32 = .ok (.isub, 1) := dk_100 (dk_at dksX2_time_1 9 rfl rfl)
theorem dX2_time_33 : decode cX2_time 33 = .ok (.istore_n 3, 1) := dk_62 (dk_at dksX2_time_1 10 rfl rfl)
theorem dX2_time_34 : decode cX2_time 34 = .ok (.aload_n 0, 1) := dk_42 (dk_at dksX2_time_1 11 rfl rfl)
theorem dX2_time_35 : decode cX2_time 35 = .ok (.bipush 41, 2) := dk_16 41 (dk_at dksX2_time_1 12 rfl rfl)
theorem dX2_time_37 : decode cX2_time 37 = .ok (.invokevirtual 187, 3) := dk_182 0 187 (dk_at dksX2_time_1 14 rfl rfl)
theorem dX2_time_40 : decode cX2_time 40 = .ok (.bipush 20, 2) := dk_16 20 (dk_at dksX2_time_1 17 rfl rfl)
theorem dX2_time_42 : decode cX2_time 42 = .ok (.isub, 1) := dk_100 (dk_at dksX2_time_1 19 rfl rfl)
theorem dX2_time_43 : decode cX2_time 43 = .ok (.istore 4, 2) := dk_54 4 (dk_at dksX2_time_1 20 rfl rfl)
theorem dX2_time_45 : decode cX2_time 45 = .ok (.aload_n 0, 1) := dk_42 (dk_at dksX2_time_1 22 rfl rfl)
theorem dX2_time_46 : decode cX2_time 46 = .ok (.iconst 3, 1) := dk_6 (dk_at dksX2_time_1 23 rfl rfl)
theorem dX2_time_47 : decode cX2_time 47 = .ok (.invokevirtual 187, 3) := dk_182 0 187 (dk_at dksX2_time_2 0 rfl rfl)
theorem dX2_time_50 : decode cX2_time 50 = .ok (.istore 5, 2) := dk_54 5 (dk_at dksX2_time_2 3 rfl rfl)
theorem dX2_time_52 : decode cX2_time 52 = .ok (.iload_n 1, 1) := dk_27 (dk_at dksX2_time_2 5 rfl rfl)
theorem dX2_time_53 : decode cX2_time 53 = .ok (.iload_n 2, 1) := dk_28 (dk_at dksX2_time_2 6 rfl rfl)
theorem dX2_time_54 : decode cX2_time 54 = .ok (.if_icmp .eq 34, 3) := dk_159 0 34 (dk_at dksX2_time_2 7 rfl rfl)
theorem dX2_time_57 : decode cX2_time 57 = .ok (.aload_n 0, 1) := dk_42 (dk_at dksX2_time_2 10 rfl rfl)
theorem dX2_time_58 : decode cX2_time 58 = .ok (.getfield 7, 3) := dk_180 0 7 (dk_at dksX2_time_2 11 rfl rfl)
theorem dX2_time_61 : decode cX2_time 61 = .ok (.bipush 107, 2) := dk_16 107 (dk_at dksX2_time_2 14 rfl rfl)
theorem dX2_time_63 : decode cX2_time 63 = .ok (.bipush 8, 2) := dk_16 8 (dk_at dksX2_time_2 16 rfl rfl)
theorem dX2_time_65 : decode cX2_time 65 = .ok (.iload_n 1, 1) := dk_27 (dk_at dksX2_time_2 18 rfl rfl)
theorem dX2_time_66 : decode cX2_time 66 = .ok (.imul, 1) := dk_104 (dk_at dksX2_time_2 19 rfl rfl)
theorem dX2_time_67 : decode cX2_time 67 = .ok (.iadd, 1) := dk_96 (dk_at dksX2_time_2 20 rfl rfl)
theorem dX2_time_68 : decode cX2_time 68 = .ok (.iload_n 2, 1) := dk_28 (dk_at dksX2_time_2 21 rfl rfl)
theorem dX2_time_69 : decode cX2_time 69 = .ok (.iadd, 1) := dk_96 (dk_at dksX2_time_2 22 rfl rfl)
theorem dX2_time_70 : decode cX2_time 70 = .ok (.iload_n 3, 1) := dk_29 (dk_at dksX2_time_2 23 rfl rfl)
theorem dX2_time_71 : decode cX2_time 71 = .ok (.iastore, 1) := dk_79 (dk_at dksX2_time_3 0 rfl rfl)
theorem dX2_time_72 : decode cX2_time 72 = .ok (.aload_n 0, 1) := dk_42 (dk_at dksX2_time_3 1 rfl rfl)
theorem dX2_time_73 : decode cX2_time 73 = .ok (.getfield 7, 3) := dk_180 0 7 (dk_at dksX2_time_3 2 rfl rfl)
theorem dX2_time_76 : decode cX2_time 76 = .ok (.bipush 43, 2) := dk_16 43 (dk_at dksX2_time_3 5 rfl rfl)
theorem dX2_time_78 : decode cX2_time 78 = .ok (.bipush 8, 2) := dk_16 8 (dk_at dksX2_time_3 7 rfl rfl)
theorem dX2_time_80 : decode cX2_time 80 = .ok (.iload_n 1, 1) := dk_27 (dk_at dksX2_time_3 9 rfl rfl)
theorem dX2_time_81 : decode cX2_time 81 = .ok (.imul, 1) := dk_104 (dk_at dksX2_time_3 10 rfl rfl)
theorem dX2_time_82 : decode cX2_time 82 = .ok (.iadd, 1) := dk_96 (dk_at dksX2_time_3 11 rfl rfl)
theorem dX2_time_83 : decode cX2_time 83 = .ok (.iload_n 2, 1) := dk_28 (dk_at dksX2_time_3 12 rfl rfl)
theorem dX2_time_84 : decode cX2_time 84 = .ok (.iadd, 1) := dk_96 (dk_at dksX2_time_3 13 rfl rfl)
theorem dX2_time_85 : decode cX2_time 85 = .ok (.iload 4, 2) := dk_21 4 (dk_at dksX2_time_3 14 rfl rfl)
theorem dX2_time_87 : decode cX2_time 87 = .ok (.iastore, 1) := dk_79 (dk_at dksX2_time_3 16 rfl rfl)
theorem dX2_time_88 : decode cX2_time 88 = .ok (.iload 5, 2) := dk_21 5 (dk_at dksX2_time_3 17 rfl rfl)
theorem dX2_time_90 : decode cX2_time 90 = .ok (.ifCond .ne 11, 3) := dk_154 0 11 (dk_at dksX2_time_3 19 rfl rfl)
theorem dX2_time_93 : decode cX2_time 93 = .ok (.aload_n 0, 1) := dk_42 (dk_at dksX2_time_3 22 rfl rfl)
theorem dX2_time_94 : decode cX2_time 94 = .ok (.iconst 0, 1) := dk_3 (dk_at dksX2_time_3 23 rfl rfl)
theorem dX2_time_95 : decode cX2_time 95 = .ok (.invokevirtual 172, 3) := dk_182 0 172 (dk_at dksX2_time_4 0 rfl rfl)
theorem dX2_time_98 : decode cX2_time 98 = .ok (.goto 7, 3) := dk_167 0 7 (dk_at dksX2_time_4 3 rfl rfl)
theorem dX2_time_101 : decode cX2_time 101 = .ok (.aload_n 0, 1) := dk_42 (dk_at dksX2_time_4 6 rfl rfl)
theorem dX2_time_102 : decode cX2_time 102 = .ok (.invokevirtual 169, 3) := dk_182 0 169 (dk_at dksX2_time_4 7 rfl rfl)
theorem dX2_time_105 : decode cX2_time 105 = .ok (.return_, 1) := dk_177 (dk_at dksX2_time_4 10 rfl rfl)
abbrev cX2_draw : ByteArray := prog_12_method_52_code
def yX2_draw : MethodName := ⟨RX2, "draw", "(I)I"⟩
def dkwX2_draw_1 : List UInt8 := [180, 0, 7, 17, 0, 191, 32, 136, 79, 42, 180, 0, 7, 17, 0, 191, 46, 18, 186, 108, 27, 112, 172]
abbrev dktX2_draw_1 : List UInt8 := dkwX2_draw_1 ++ []
def dkwX2_draw_0 : List UInt8 := [42, 180, 0, 7, 17, 0, 191, 46, 133, 20, 0, 180, 105, 20, 0, 182, 97, 20, 0, 184, 113, 65, 42]
abbrev dktX2_draw_0 : List UInt8 := dkwX2_draw_0 ++ dktX2_draw_1
theorem dksX2_draw_0 : cX2_draw.data.toList.drop 0 = dktX2_draw_0 := by decide +kernel
theorem dksX2_draw_1 : cX2_draw.data.toList.drop 23 = dktX2_draw_1 := dk_seg dksX2_draw_0 23 rfl rfl
theorem dX2_draw_0 : decode cX2_draw 0 = .ok (.aload_n 0, 1) := dk_42 (dk_at dksX2_draw_0 0 rfl rfl)
theorem dX2_draw_1 : decode cX2_draw 1 = .ok (.getfield 7, 3) := dk_180 0 7 (dk_at dksX2_draw_0 1 rfl rfl)
theorem dX2_draw_4 : decode cX2_draw 4 = .ok (.sipush 191, 3) := dk_17 0 191 (dk_at dksX2_draw_0 4 rfl rfl)
theorem dX2_draw_7 : decode cX2_draw 7 = .ok (.iaload, 1) := dk_46 (dk_at dksX2_draw_0 7 rfl rfl)
theorem dX2_draw_8 : decode cX2_draw 8 = .ok (.i2l, 1) := dk_133 (dk_at dksX2_draw_0 8 rfl rfl)
theorem dX2_draw_9 : decode cX2_draw 9 = .ok (.ldc2_w 180, 3) := dk_20 0 180 (dk_at dksX2_draw_0 9 rfl rfl)
theorem dX2_draw_12 : decode cX2_draw 12 = .ok (.lmul, 1) := dk_105 (dk_at dksX2_draw_0 12 rfl rfl)
theorem dX2_draw_13 : decode cX2_draw 13 = .ok (.ldc2_w 182, 3) := dk_20 0 182 (dk_at dksX2_draw_0 13 rfl rfl)
theorem dX2_draw_16 : decode cX2_draw 16 = .ok (.ladd, 1) := dk_97 (dk_at dksX2_draw_0 16 rfl rfl)
theorem dX2_draw_17 : decode cX2_draw 17 = .ok (.ldc2_w 184, 3) := dk_20 0 184 (dk_at dksX2_draw_0 17 rfl rfl)
theorem dX2_draw_20 : decode cX2_draw 20 = .ok (.lrem, 1) := dk_113 (dk_at dksX2_draw_0 20 rfl rfl)
theorem dX2_draw_21 : decode cX2_draw 21 = .ok (.lstore_n 2, 1) := dk_65 (dk_at dksX2_draw_0 21 rfl rfl)
theorem dX2_draw_22 : decode cX2_draw 22 = .ok (.aload_n 0, 1) := dk_42 (dk_at dksX2_draw_0 22 rfl rfl)
theorem dX2_draw_23 : decode cX2_draw 23 = .ok (.getfield 7, 3) := dk_180 0 7 (dk_at dksX2_draw_1 0 rfl rfl)
theorem dX2_draw_26 : decode cX2_draw 26 = .ok (.sipush 191, 3) := dk_17 0 191 (dk_at dksX2_draw_1 3 rfl rfl)
theorem dX2_draw_29 : decode cX2_draw 29 = .ok (.lload_n 2, 1) := dk_32 (dk_at dksX2_draw_1 6 rfl rfl)
theorem dX2_draw_30 : decode cX2_draw 30 = .ok (.l2i, 1) := dk_136 (dk_at dksX2_draw_1 7 rfl rfl)
theorem dX2_draw_31 : decode cX2_draw 31 = .ok (.iastore, 1) := dk_79 (dk_at dksX2_draw_1 8 rfl rfl)
theorem dX2_draw_32 : decode cX2_draw 32 = .ok (.aload_n 0, 1) := dk_42 (dk_at dksX2_draw_1 9 rfl rfl)
theorem dX2_draw_33 : decode cX2_draw 33 = .ok (.getfield 7, 3) := dk_180 0 7 (dk_at dksX2_draw_1 10 rfl rfl)
theorem dX2_draw_36 : decode cX2_draw 36 = .ok (.sipush 191, 3) := dk_17 0 191 (dk_at dksX2_draw_1 13 rfl rfl)
theorem dX2_draw_39 : decode cX2_draw 39 = .ok (.iaload, 1) := dk_46 (dk_at dksX2_draw_1 16 rfl rfl)
theorem dX2_draw_40 : decode cX2_draw 40 = .ok (.ldc 186, 2) := dk_18 186 (dk_at dksX2_draw_1 17 rfl rfl)
theorem dX2_draw_42 : decode cX2_draw 42 = .ok (.idiv, 1) := dk_108 (dk_at dksX2_draw_1 19 rfl rfl)
theorem dX2_draw_43 : decode cX2_draw 43 = .ok (.iload_n 1, 1) := dk_27 (dk_at dksX2_draw_1 20 rfl rfl)
theorem dX2_draw_44 : decode cX2_draw 44 = .ok (.irem, 1) := dk_112 (dk_at dksX2_draw_1 21 rfl rfl)
theorem dX2_draw_45 : decode cX2_draw 45 = .ok (.ireturn, 1) := dk_172 (dk_at dksX2_draw_1 22 rfl rfl)
abbrev cX2_undo : ByteArray := prog_12_method_55_code
def yX2_undo : MethodName := ⟨RX2, "undo", "(I)I"⟩
def dkwX2_undo_3 : List UInt8 := [17, 0, 190, 46, 172]
abbrev dktX2_undo_3 : List UInt8 := dkwX2_undo_3 ++ []
def dkwX2_undo_2 : List UInt8 := [180, 0, 88, 4, 96, 104, 3, 182, 0, 85, 42, 180, 0, 7, 17, 0, 191, 28, 79, 42, 180, 0, 7]
abbrev dktX2_undo_2 : List UInt8 := dkwX2_undo_2 ++ dktX2_undo_3
def dkwX2_undo_1 : List UInt8 := [42, 180, 0, 7, 17, 0, 191, 46, 61, 42, 89, 180, 0, 88, 27, 100, 181, 0, 88, 42, 17, 0, 192, 42]
abbrev dktX2_undo_1 : List UInt8 := dkwX2_undo_1 ++ dktX2_undo_2
def dkwX2_undo_0 : List UInt8 := [27, 4, 16, 16, 184, 0, 32, 154, 0, 6, 18, 36, 172, 27, 42, 180, 0, 88, 164, 0, 6, 18, 178, 172]
abbrev dktX2_undo_0 : List UInt8 := dkwX2_undo_0 ++ dktX2_undo_1
theorem dksX2_undo_0 : cX2_undo.data.toList.drop 0 = dktX2_undo_0 := by decide +kernel
theorem dksX2_undo_1 : cX2_undo.data.toList.drop 24 = dktX2_undo_1 := dk_seg dksX2_undo_0 24 rfl rfl
theorem dksX2_undo_2 : cX2_undo.data.toList.drop 48 = dktX2_undo_2 := dk_seg dksX2_undo_1 24 rfl rfl
theorem dksX2_undo_3 : cX2_undo.data.toList.drop 71 = dktX2_undo_3 := dk_seg dksX2_undo_2 23 rfl rfl
theorem dX2_undo_0 : decode cX2_undo 0 = .ok (.iload_n 1, 1) := dk_27 (dk_at dksX2_undo_0 0 rfl rfl)
theorem dX2_undo_1 : decode cX2_undo 1 = .ok (.iconst 1, 1) := dk_4 (dk_at dksX2_undo_0 1 rfl rfl)
theorem dX2_undo_2 : decode cX2_undo 2 = .ok (.bipush 16, 2) := dk_16 16 (dk_at dksX2_undo_0 2 rfl rfl)
theorem dX2_undo_4 : decode cX2_undo 4 = .ok (.invokestatic 32, 3) := dk_184 0 32 (dk_at dksX2_undo_0 4 rfl rfl)
theorem dX2_undo_7 : decode cX2_undo 7 = .ok (.ifCond .ne 6, 3) := dk_154 0 6 (dk_at dksX2_undo_0 7 rfl rfl)
theorem dX2_undo_10 : decode cX2_undo 10 = .ok (.ldc 36, 2) := dk_18 36 (dk_at dksX2_undo_0 10 rfl rfl)
theorem dX2_undo_12 : decode cX2_undo 12 = .ok (.ireturn, 1) := dk_172 (dk_at dksX2_undo_0 12 rfl rfl)
theorem dX2_undo_13 : decode cX2_undo 13 = .ok (.iload_n 1, 1) := dk_27 (dk_at dksX2_undo_0 13 rfl rfl)
theorem dX2_undo_14 : decode cX2_undo 14 = .ok (.aload_n 0, 1) := dk_42 (dk_at dksX2_undo_0 14 rfl rfl)
theorem dX2_undo_15 : decode cX2_undo 15 = .ok (.getfield 88, 3) := dk_180 0 88 (dk_at dksX2_undo_0 15 rfl rfl)
theorem dX2_undo_18 : decode cX2_undo 18 = .ok (.if_icmp .le 6, 3) := dk_164 0 6 (dk_at dksX2_undo_0 18 rfl rfl)
theorem dX2_undo_21 : decode cX2_undo 21 = .ok (.ldc 178, 2) := dk_18 178 (dk_at dksX2_undo_0 21 rfl rfl)
theorem dX2_undo_23 : decode cX2_undo 23 = .ok (.ireturn, 1) := dk_172 (dk_at dksX2_undo_0 23 rfl rfl)
theorem dX2_undo_24 : decode cX2_undo 24 = .ok (.aload_n 0, 1) := dk_42 (dk_at dksX2_undo_1 0 rfl rfl)
theorem dX2_undo_25 : decode cX2_undo 25 = .ok (.getfield 7, 3) := dk_180 0 7 (dk_at dksX2_undo_1 1 rfl rfl)
theorem dX2_undo_28 : decode cX2_undo 28 = .ok (.sipush 191, 3) := dk_17 0 191 (dk_at dksX2_undo_1 4 rfl rfl)
theorem dX2_undo_31 : decode cX2_undo 31 = .ok (.iaload, 1) := dk_46 (dk_at dksX2_undo_1 7 rfl rfl)
theorem dX2_undo_32 : decode cX2_undo 32 = .ok (.istore_n 2, 1) := dk_61 (dk_at dksX2_undo_1 8 rfl rfl)
theorem dX2_undo_33 : decode cX2_undo 33 = .ok (.aload_n 0, 1) := dk_42 (dk_at dksX2_undo_1 9 rfl rfl)
theorem dX2_undo_34 : decode cX2_undo 34 = .ok (.dup, 1) := dk_89 (dk_at dksX2_undo_1 10 rfl rfl)
theorem dX2_undo_35 : decode cX2_undo 35 = .ok (.getfield 88, 3) := dk_180 0 88 (dk_at dksX2_undo_1 11 rfl rfl)
theorem dX2_undo_38 : decode cX2_undo 38 = .ok (.iload_n 1, 1) := dk_27 (dk_at dksX2_undo_1 14 rfl rfl)
theorem dX2_undo_39 : decode cX2_undo 39 = .ok (.isub, 1) := dk_100 (dk_at dksX2_undo_1 15 rfl rfl)
theorem dX2_undo_40 : decode cX2_undo 40 = .ok (.putfield 88, 3) := dk_181 0 88 (dk_at dksX2_undo_1 16 rfl rfl)
theorem dX2_undo_43 : decode cX2_undo 43 = .ok (.aload_n 0, 1) := dk_42 (dk_at dksX2_undo_1 19 rfl rfl)
theorem dX2_undo_44 : decode cX2_undo 44 = .ok (.sipush 192, 3) := dk_17 0 192 (dk_at dksX2_undo_1 20 rfl rfl)
theorem dX2_undo_47 : decode cX2_undo 47 = .ok (.aload_n 0, 1) := dk_42 (dk_at dksX2_undo_1 23 rfl rfl)
theorem dX2_undo_48 : decode cX2_undo 48 = .ok (.getfield 88, 3) := dk_180 0 88 (dk_at dksX2_undo_2 0 rfl rfl)
theorem dX2_undo_51 : decode cX2_undo 51 = .ok (.iconst 1, 1) := dk_4 (dk_at dksX2_undo_2 3 rfl rfl)
theorem dX2_undo_52 : decode cX2_undo 52 = .ok (.iadd, 1) := dk_96 (dk_at dksX2_undo_2 4 rfl rfl)
theorem dX2_undo_53 : decode cX2_undo 53 = .ok (.imul, 1) := dk_104 (dk_at dksX2_undo_2 5 rfl rfl)
theorem dX2_undo_54 : decode cX2_undo 54 = .ok (.iconst 0, 1) := dk_3 (dk_at dksX2_undo_2 6 rfl rfl)
theorem dX2_undo_55 : decode cX2_undo 55 = .ok (.invokevirtual 85, 3) := dk_182 0 85 (dk_at dksX2_undo_2 7 rfl rfl)
theorem dX2_undo_58 : decode cX2_undo 58 = .ok (.aload_n 0, 1) := dk_42 (dk_at dksX2_undo_2 10 rfl rfl)
theorem dX2_undo_59 : decode cX2_undo 59 = .ok (.getfield 7, 3) := dk_180 0 7 (dk_at dksX2_undo_2 11 rfl rfl)
theorem dX2_undo_62 : decode cX2_undo 62 = .ok (.sipush 191, 3) := dk_17 0 191 (dk_at dksX2_undo_2 14 rfl rfl)
theorem dX2_undo_65 : decode cX2_undo 65 = .ok (.iload_n 2, 1) := dk_28 (dk_at dksX2_undo_2 17 rfl rfl)
theorem dX2_undo_66 : decode cX2_undo 66 = .ok (.iastore, 1) := dk_79 (dk_at dksX2_undo_2 18 rfl rfl)
theorem dX2_undo_67 : decode cX2_undo 67 = .ok (.aload_n 0, 1) := dk_42 (dk_at dksX2_undo_2 19 rfl rfl)
theorem dX2_undo_68 : decode cX2_undo 68 = .ok (.getfield 7, 3) := dk_180 0 7 (dk_at dksX2_undo_2 20 rfl rfl)
theorem dX2_undo_71 : decode cX2_undo 71 = .ok (.sipush 190, 3) := dk_17 0 190 (dk_at dksX2_undo_3 0 rfl rfl)
theorem dX2_undo_74 : decode cX2_undo 74 = .ok (.iaload, 1) := dk_46 (dk_at dksX2_undo_3 3 rfl rfl)
theorem dX2_undo_75 : decode cX2_undo 75 = .ok (.ireturn, 1) := dk_172 (dk_at dksX2_undo_3 4 rfl rfl)
abbrev cX2_behind : ByteArray := prog_12_method_56_code
def yX2_behind : MethodName := ⟨RX2, "behind", "(I)I"⟩
def dkwX2_behind_2 : List UInt8 := [172]
abbrev dktX2_behind_2 : List UInt8 := dkwX2_behind_2 ++ []
def dkwX2_behind_1 : List UInt8 := [27, 162, 0, 16, 42, 17, 14, 64, 182, 0, 172, 132, 2, 1, 167, 255, 241, 42, 17, 14, 64, 182, 0, 123]
abbrev dktX2_behind_1 : List UInt8 := dkwX2_behind_1 ++ dktX2_behind_2
def dkwX2_behind_0 : List UInt8 := [27, 3, 16, 20, 184, 0, 32, 154, 0, 6, 18, 36, 172, 42, 3, 17, 14, 64, 182, 0, 85, 3, 61, 28]
abbrev dktX2_behind_0 : List UInt8 := dkwX2_behind_0 ++ dktX2_behind_1
theorem dksX2_behind_0 : cX2_behind.data.toList.drop 0 = dktX2_behind_0 := by decide +kernel
theorem dksX2_behind_1 : cX2_behind.data.toList.drop 24 = dktX2_behind_1 := dk_seg dksX2_behind_0 24 rfl rfl
theorem dksX2_behind_2 : cX2_behind.data.toList.drop 48 = dktX2_behind_2 := dk_seg dksX2_behind_1 24 rfl rfl
theorem dX2_behind_0 : decode cX2_behind 0 = .ok (.iload_n 1, 1) := dk_27 (dk_at dksX2_behind_0 0 rfl rfl)
theorem dX2_behind_1 : decode cX2_behind 1 = .ok (.iconst 0, 1) := dk_3 (dk_at dksX2_behind_0 1 rfl rfl)
theorem dX2_behind_2 : decode cX2_behind 2 = .ok (.bipush 20, 2) := dk_16 20 (dk_at dksX2_behind_0 2 rfl rfl)
theorem dX2_behind_4 : decode cX2_behind 4 = .ok (.invokestatic 32, 3) := dk_184 0 32 (dk_at dksX2_behind_0 4 rfl rfl)
theorem dX2_behind_7 : decode cX2_behind 7 = .ok (.ifCond .ne 6, 3) := dk_154 0 6 (dk_at dksX2_behind_0 7 rfl rfl)
theorem dX2_behind_10 : decode cX2_behind 10 = .ok (.ldc 36, 2) := dk_18 36 (dk_at dksX2_behind_0 10 rfl rfl)
theorem dX2_behind_12 : decode cX2_behind 12 = .ok (.ireturn, 1) := dk_172 (dk_at dksX2_behind_0 12 rfl rfl)
theorem dX2_behind_13 : decode cX2_behind 13 = .ok (.aload_n 0, 1) := dk_42 (dk_at dksX2_behind_0 13 rfl rfl)
theorem dX2_behind_14 : decode cX2_behind 14 = .ok (.iconst 0, 1) := dk_3 (dk_at dksX2_behind_0 14 rfl rfl)
theorem dX2_behind_15 : decode cX2_behind 15 = .ok (.sipush 3648, 3) := dk_17 14 64 (dk_at dksX2_behind_0 15 rfl rfl)
theorem dX2_behind_18 : decode cX2_behind 18 = .ok (.invokevirtual 85, 3) := dk_182 0 85 (dk_at dksX2_behind_0 18 rfl rfl)
theorem dX2_behind_21 : decode cX2_behind 21 = .ok (.iconst 0, 1) := dk_3 (dk_at dksX2_behind_0 21 rfl rfl)
theorem dX2_behind_22 : decode cX2_behind 22 = .ok (.istore_n 2, 1) := dk_61 (dk_at dksX2_behind_0 22 rfl rfl)
theorem dX2_behind_23 : decode cX2_behind 23 = .ok (.iload_n 2, 1) := dk_28 (dk_at dksX2_behind_0 23 rfl rfl)
theorem dX2_behind_24 : decode cX2_behind 24 = .ok (.iload_n 1, 1) := dk_27 (dk_at dksX2_behind_1 0 rfl rfl)
theorem dX2_behind_25 : decode cX2_behind 25 = .ok (.if_icmp .ge 16, 3) := dk_162 0 16 (dk_at dksX2_behind_1 1 rfl rfl)
theorem dX2_behind_28 : decode cX2_behind 28 = .ok (.aload_n 0, 1) := dk_42 (dk_at dksX2_behind_1 4 rfl rfl)
theorem dX2_behind_29 : decode cX2_behind 29 = .ok (.sipush 3648, 3) := dk_17 14 64 (dk_at dksX2_behind_1 5 rfl rfl)
theorem dX2_behind_32 : decode cX2_behind 32 = .ok (.invokevirtual 172, 3) := dk_182 0 172 (dk_at dksX2_behind_1 8 rfl rfl)
theorem dX2_behind_35 : decode cX2_behind 35 = .ok (.iinc 2 1, 3) := dk_132 2 1 (dk_at dksX2_behind_1 11 rfl rfl)
theorem dX2_behind_38 : decode cX2_behind 38 = .ok (.goto (-15), 3) := dk_167 255 241 (dk_at dksX2_behind_1 14 rfl rfl)
theorem dX2_behind_41 : decode cX2_behind 41 = .ok (.aload_n 0, 1) := dk_42 (dk_at dksX2_behind_1 17 rfl rfl)
theorem dX2_behind_42 : decode cX2_behind 42 = .ok (.sipush 3648, 3) := dk_17 14 64 (dk_at dksX2_behind_1 18 rfl rfl)
theorem dX2_behind_45 : decode cX2_behind 45 = .ok (.invokevirtual 123, 3) := dk_182 0 123 (dk_at dksX2_behind_1 21 rfl rfl)
theorem dX2_behind_48 : decode cX2_behind 48 = .ok (.ireturn, 1) := dk_172 (dk_at dksX2_behind_2 0 rfl rfl)
abbrev cX2_within : ByteArray := prog_12_method_57_code
def yX2_within : MethodName := ⟨RX2, "within", "(I)I"⟩
def dkwX2_within_1 : List UInt8 := [182, 0, 193, 62, 29, 2, 159, 0, 10, 29, 27, 163, 0, 5, 28, 172, 132, 2, 1, 167, 255, 229, 2, 172]
abbrev dktX2_within_1 : List UInt8 := dkwX2_within_1 ++ []
def dkwX2_within_0 : List UInt8 := [27, 3, 17, 39, 15, 184, 0, 32, 154, 0, 6, 18, 36, 172, 3, 61, 28, 16, 20, 163, 0, 27, 42, 28]
abbrev dktX2_within_0 : List UInt8 := dkwX2_within_0 ++ dktX2_within_1
theorem dksX2_within_0 : cX2_within.data.toList.drop 0 = dktX2_within_0 := by decide +kernel
theorem dksX2_within_1 : cX2_within.data.toList.drop 24 = dktX2_within_1 := dk_seg dksX2_within_0 24 rfl rfl
theorem dX2_within_0 : decode cX2_within 0 = .ok (.iload_n 1, 1) := dk_27 (dk_at dksX2_within_0 0 rfl rfl)
theorem dX2_within_1 : decode cX2_within 1 = .ok (.iconst 0, 1) := dk_3 (dk_at dksX2_within_0 1 rfl rfl)
theorem dX2_within_2 : decode cX2_within 2 = .ok (.sipush 9999, 3) := dk_17 39 15 (dk_at dksX2_within_0 2 rfl rfl)
theorem dX2_within_5 : decode cX2_within 5 = .ok (.invokestatic 32, 3) := dk_184 0 32 (dk_at dksX2_within_0 5 rfl rfl)
theorem dX2_within_8 : decode cX2_within 8 = .ok (.ifCond .ne 6, 3) := dk_154 0 6 (dk_at dksX2_within_0 8 rfl rfl)
theorem dX2_within_11 : decode cX2_within 11 = .ok (.ldc 36, 2) := dk_18 36 (dk_at dksX2_within_0 11 rfl rfl)
theorem dX2_within_13 : decode cX2_within 13 = .ok (.ireturn, 1) := dk_172 (dk_at dksX2_within_0 13 rfl rfl)
theorem dX2_within_14 : decode cX2_within 14 = .ok (.iconst 0, 1) := dk_3 (dk_at dksX2_within_0 14 rfl rfl)
theorem dX2_within_15 : decode cX2_within 15 = .ok (.istore_n 2, 1) := dk_61 (dk_at dksX2_within_0 15 rfl rfl)
theorem dX2_within_16 : decode cX2_within 16 = .ok (.iload_n 2, 1) := dk_28 (dk_at dksX2_within_0 16 rfl rfl)
theorem dX2_within_17 : decode cX2_within 17 = .ok (.bipush 20, 2) := dk_16 20 (dk_at dksX2_within_0 17 rfl rfl)
theorem dX2_within_19 : decode cX2_within 19 = .ok (.if_icmp .gt 27, 3) := dk_163 0 27 (dk_at dksX2_within_0 19 rfl rfl)
theorem dX2_within_22 : decode cX2_within 22 = .ok (.aload_n 0, 1) := dk_42 (dk_at dksX2_within_0 22 rfl rfl)
theorem dX2_within_23 : decode cX2_within 23 = .ok (.iload_n 2, 1) := dk_28 (dk_at dksX2_within_0 23 rfl rfl)
theorem dX2_within_24 : decode cX2_within 24 = .ok (.invokevirtual 193, 3) := dk_182 0 193 (dk_at dksX2_within_1 0 rfl rfl)
theorem dX2_within_27 : decode cX2_within 27 = .ok (.istore_n 3, 1) := dk_62 (dk_at dksX2_within_1 3 rfl rfl)
theorem dX2_within_28 : decode cX2_within 28 = .ok (.iload_n 3, 1) := dk_29 (dk_at dksX2_within_1 4 rfl rfl)
theorem dX2_within_29 : decode cX2_within 29 = .ok (.iconst (-1), 1) := dk_2 (dk_at dksX2_within_1 5 rfl rfl)
theorem dX2_within_30 : decode cX2_within 30 = .ok (.if_icmp .eq 10, 3) := dk_159 0 10 (dk_at dksX2_within_1 6 rfl rfl)
theorem dX2_within_33 : decode cX2_within 33 = .ok (.iload_n 3, 1) := dk_29 (dk_at dksX2_within_1 9 rfl rfl)
theorem dX2_within_34 : decode cX2_within 34 = .ok (.iload_n 1, 1) := dk_27 (dk_at dksX2_within_1 10 rfl rfl)
theorem dX2_within_35 : decode cX2_within 35 = .ok (.if_icmp .gt 5, 3) := dk_163 0 5 (dk_at dksX2_within_1 11 rfl rfl)
theorem dX2_within_38 : decode cX2_within 38 = .ok (.iload_n 2, 1) := dk_28 (dk_at dksX2_within_1 14 rfl rfl)
theorem dX2_within_39 : decode cX2_within 39 = .ok (.ireturn, 1) := dk_172 (dk_at dksX2_within_1 15 rfl rfl)
theorem dX2_within_40 : decode cX2_within 40 = .ok (.iinc 2 1, 3) := dk_132 2 1 (dk_at dksX2_within_1 16 rfl rfl)
theorem dX2_within_43 : decode cX2_within 43 = .ok (.goto (-27), 3) := dk_167 255 229 (dk_at dksX2_within_1 19 rfl rfl)
theorem dX2_within_46 : decode cX2_within 46 = .ok (.iconst (-1), 1) := dk_2 (dk_at dksX2_within_1 22 rfl rfl)
theorem dX2_within_47 : decode cX2_within 47 = .ok (.ireturn, 1) := dk_172 (dk_at dksX2_within_1 23 rfl rfl)
abbrev cX2_write : ByteArray := prog_12_method_58_code
def yX2_write : MethodName := ⟨RX2, "write", "(II)I"⟩
def dkwX2_write_2 : List UInt8 := [4, 96, 181, 0, 94, 42, 180, 0, 94, 172]
abbrev dktX2_write_2 : List UInt8 := dkwX2_write_2 ++ []
def dkwX2_write_1 : List UInt8 := [180, 0, 20, 42, 180, 0, 94, 27, 79, 42, 180, 0, 23, 42, 180, 0, 94, 28, 79, 42, 89, 180, 0, 94]
abbrev dktX2_write_1 : List UInt8 := dkwX2_write_1 ++ dktX2_write_2
def dkwX2_write_0 : List UInt8 := [42, 27, 182, 0, 136, 154, 0, 6, 18, 155, 172, 42, 180, 0, 94, 16, 20, 160, 0, 6, 18, 40, 172, 42]
abbrev dktX2_write_0 : List UInt8 := dkwX2_write_0 ++ dktX2_write_1
theorem dksX2_write_0 : cX2_write.data.toList.drop 0 = dktX2_write_0 := by decide +kernel
theorem dksX2_write_1 : cX2_write.data.toList.drop 24 = dktX2_write_1 := dk_seg dksX2_write_0 24 rfl rfl
theorem dksX2_write_2 : cX2_write.data.toList.drop 48 = dktX2_write_2 := dk_seg dksX2_write_1 24 rfl rfl
theorem dX2_write_0 : decode cX2_write 0 = .ok (.aload_n 0, 1) := dk_42 (dk_at dksX2_write_0 0 rfl rfl)
theorem dX2_write_1 : decode cX2_write 1 = .ok (.iload_n 1, 1) := dk_27 (dk_at dksX2_write_0 1 rfl rfl)
theorem dX2_write_2 : decode cX2_write 2 = .ok (.invokevirtual 136, 3) := dk_182 0 136 (dk_at dksX2_write_0 2 rfl rfl)
theorem dX2_write_5 : decode cX2_write 5 = .ok (.ifCond .ne 6, 3) := dk_154 0 6 (dk_at dksX2_write_0 5 rfl rfl)
theorem dX2_write_8 : decode cX2_write 8 = .ok (.ldc 155, 2) := dk_18 155 (dk_at dksX2_write_0 8 rfl rfl)
theorem dX2_write_10 : decode cX2_write 10 = .ok (.ireturn, 1) := dk_172 (dk_at dksX2_write_0 10 rfl rfl)
theorem dX2_write_11 : decode cX2_write 11 = .ok (.aload_n 0, 1) := dk_42 (dk_at dksX2_write_0 11 rfl rfl)
theorem dX2_write_12 : decode cX2_write 12 = .ok (.getfield 94, 3) := dk_180 0 94 (dk_at dksX2_write_0 12 rfl rfl)
theorem dX2_write_15 : decode cX2_write 15 = .ok (.bipush 20, 2) := dk_16 20 (dk_at dksX2_write_0 15 rfl rfl)
theorem dX2_write_17 : decode cX2_write 17 = .ok (.if_icmp .ne 6, 3) := dk_160 0 6 (dk_at dksX2_write_0 17 rfl rfl)
theorem dX2_write_20 : decode cX2_write 20 = .ok (.ldc 40, 2) := dk_18 40 (dk_at dksX2_write_0 20 rfl rfl)
theorem dX2_write_22 : decode cX2_write 22 = .ok (.ireturn, 1) := dk_172 (dk_at dksX2_write_0 22 rfl rfl)
theorem dX2_write_23 : decode cX2_write 23 = .ok (.aload_n 0, 1) := dk_42 (dk_at dksX2_write_0 23 rfl rfl)
theorem dX2_write_24 : decode cX2_write 24 = .ok (.getfield 20, 3) := dk_180 0 20 (dk_at dksX2_write_1 0 rfl rfl)
theorem dX2_write_27 : decode cX2_write 27 = .ok (.aload_n 0, 1) := dk_42 (dk_at dksX2_write_1 3 rfl rfl)
theorem dX2_write_28 : decode cX2_write 28 = .ok (.getfield 94, 3) := dk_180 0 94 (dk_at dksX2_write_1 4 rfl rfl)
theorem dX2_write_31 : decode cX2_write 31 = .ok (.iload_n 1, 1) := dk_27 (dk_at dksX2_write_1 7 rfl rfl)
theorem dX2_write_32 : decode cX2_write 32 = .ok (.iastore, 1) := dk_79 (dk_at dksX2_write_1 8 rfl rfl)
theorem dX2_write_33 : decode cX2_write 33 = .ok (.aload_n 0, 1) := dk_42 (dk_at dksX2_write_1 9 rfl rfl)
theorem dX2_write_34 : decode cX2_write 34 = .ok (.getfield 23, 3) := dk_180 0 23 (dk_at dksX2_write_1 10 rfl rfl)
theorem dX2_write_37 : decode cX2_write 37 = .ok (.aload_n 0, 1) := dk_42 (dk_at dksX2_write_1 13 rfl rfl)
theorem dX2_write_38 : decode cX2_write 38 = .ok (.getfield 94, 3) := dk_180 0 94 (dk_at dksX2_write_1 14 rfl rfl)
theorem dX2_write_41 : decode cX2_write 41 = .ok (.iload_n 2, 1) := dk_28 (dk_at dksX2_write_1 17 rfl rfl)
theorem dX2_write_42 : decode cX2_write 42 = .ok (.iastore, 1) := dk_79 (dk_at dksX2_write_1 18 rfl rfl)
theorem dX2_write_43 : decode cX2_write 43 = .ok (.aload_n 0, 1) := dk_42 (dk_at dksX2_write_1 19 rfl rfl)
theorem dX2_write_44 : decode cX2_write 44 = .ok (.dup, 1) := dk_89 (dk_at dksX2_write_1 20 rfl rfl)
theorem dX2_write_45 : decode cX2_write 45 = .ok (.getfield 94, 3) := dk_180 0 94 (dk_at dksX2_write_1 21 rfl rfl)
theorem dX2_write_48 : decode cX2_write 48 = .ok (.iconst 1, 1) := dk_4 (dk_at dksX2_write_2 0 rfl rfl)
theorem dX2_write_49 : decode cX2_write 49 = .ok (.iadd, 1) := dk_96 (dk_at dksX2_write_2 1 rfl rfl)
theorem dX2_write_50 : decode cX2_write 50 = .ok (.putfield 94, 3) := dk_181 0 94 (dk_at dksX2_write_2 2 rfl rfl)
theorem dX2_write_53 : decode cX2_write 53 = .ok (.aload_n 0, 1) := dk_42 (dk_at dksX2_write_2 5 rfl rfl)
theorem dX2_write_54 : decode cX2_write 54 = .ok (.getfield 94, 3) := dk_180 0 94 (dk_at dksX2_write_2 6 rfl rfl)
theorem dX2_write_57 : decode cX2_write 57 = .ok (.ireturn, 1) := dk_172 (dk_at dksX2_write_2 9 rfl rfl)
abbrev cX2_tear : ByteArray := prog_12_method_59_code
def yX2_tear : MethodName := ⟨RX2, "tear", "()I"⟩
def dkwX2_tear_0 : List UInt8 := [42, 180, 0, 94, 60, 42, 3, 181, 0, 94, 27, 172]
abbrev dktX2_tear_0 : List UInt8 := dkwX2_tear_0 ++ []
theorem dksX2_tear_0 : cX2_tear.data.toList.drop 0 = dktX2_tear_0 := by decide +kernel
theorem dX2_tear_0 : decode cX2_tear 0 = .ok (.aload_n 0, 1) := dk_42 (dk_at dksX2_tear_0 0 rfl rfl)
theorem dX2_tear_1 : decode cX2_tear 1 = .ok (.getfield 94, 3) := dk_180 0 94 (dk_at dksX2_tear_0 1 rfl rfl)
theorem dX2_tear_4 : decode cX2_tear 4 = .ok (.istore_n 1, 1) := dk_60 (dk_at dksX2_tear_0 4 rfl rfl)
theorem dX2_tear_5 : decode cX2_tear 5 = .ok (.aload_n 0, 1) := dk_42 (dk_at dksX2_tear_0 5 rfl rfl)
theorem dX2_tear_6 : decode cX2_tear 6 = .ok (.iconst 0, 1) := dk_3 (dk_at dksX2_tear_0 6 rfl rfl)
theorem dX2_tear_7 : decode cX2_tear 7 = .ok (.putfield 94, 3) := dk_181 0 94 (dk_at dksX2_tear_0 7 rfl rfl)
theorem dX2_tear_10 : decode cX2_tear 10 = .ok (.iload_n 1, 1) := dk_27 (dk_at dksX2_tear_0 10 rfl rfl)
theorem dX2_tear_11 : decode cX2_tear 11 = .ok (.ireturn, 1) := dk_172 (dk_at dksX2_tear_0 11 rfl rfl)
abbrev cX2_seed : ByteArray := prog_12_method_60_code
def yX2_seed : MethodName := ⟨RX2, "seed", "(I)I"⟩
def dkwX2_seed_1 : List UInt8 := [79, 28, 172]
abbrev dktX2_seed_1 : List UInt8 := dkwX2_seed_1 ++ []
def dkwX2_seed_0 : List UInt8 := [27, 156, 0, 6, 18, 36, 172, 42, 180, 0, 7, 17, 0, 191, 46, 61, 42, 180, 0, 7, 17, 0, 191, 27]
abbrev dktX2_seed_0 : List UInt8 := dkwX2_seed_0 ++ dktX2_seed_1
theorem dksX2_seed_0 : cX2_seed.data.toList.drop 0 = dktX2_seed_0 := by decide +kernel
theorem dksX2_seed_1 : cX2_seed.data.toList.drop 24 = dktX2_seed_1 := dk_seg dksX2_seed_0 24 rfl rfl
theorem dX2_seed_0 : decode cX2_seed 0 = .ok (.iload_n 1, 1) := dk_27 (dk_at dksX2_seed_0 0 rfl rfl)
theorem dX2_seed_1 : decode cX2_seed 1 = .ok (.ifCond .ge 6, 3) := dk_156 0 6 (dk_at dksX2_seed_0 1 rfl rfl)
theorem dX2_seed_4 : decode cX2_seed 4 = .ok (.ldc 36, 2) := dk_18 36 (dk_at dksX2_seed_0 4 rfl rfl)
theorem dX2_seed_6 : decode cX2_seed 6 = .ok (.ireturn, 1) := dk_172 (dk_at dksX2_seed_0 6 rfl rfl)
theorem dX2_seed_7 : decode cX2_seed 7 = .ok (.aload_n 0, 1) := dk_42 (dk_at dksX2_seed_0 7 rfl rfl)
theorem dX2_seed_8 : decode cX2_seed 8 = .ok (.getfield 7, 3) := dk_180 0 7 (dk_at dksX2_seed_0 8 rfl rfl)
theorem dX2_seed_11 : decode cX2_seed 11 = .ok (.sipush 191, 3) := dk_17 0 191 (dk_at dksX2_seed_0 11 rfl rfl)
theorem dX2_seed_14 : decode cX2_seed 14 = .ok (.iaload, 1) := dk_46 (dk_at dksX2_seed_0 14 rfl rfl)
theorem dX2_seed_15 : decode cX2_seed 15 = .ok (.istore_n 2, 1) := dk_61 (dk_at dksX2_seed_0 15 rfl rfl)
theorem dX2_seed_16 : decode cX2_seed 16 = .ok (.aload_n 0, 1) := dk_42 (dk_at dksX2_seed_0 16 rfl rfl)
theorem dX2_seed_17 : decode cX2_seed 17 = .ok (.getfield 7, 3) := dk_180 0 7 (dk_at dksX2_seed_0 17 rfl rfl)
theorem dX2_seed_20 : decode cX2_seed 20 = .ok (.sipush 191, 3) := dk_17 0 191 (dk_at dksX2_seed_0 20 rfl rfl)
theorem dX2_seed_23 : decode cX2_seed 23 = .ok (.iload_n 1, 1) := dk_27 (dk_at dksX2_seed_0 23 rfl rfl)
theorem dX2_seed_24 : decode cX2_seed 24 = .ok (.iastore, 1) := dk_79 (dk_at dksX2_seed_1 0 rfl rfl)
theorem dX2_seed_25 : decode cX2_seed 25 = .ok (.iload_n 2, 1) := dk_28 (dk_at dksX2_seed_1 1 rfl rfl)
theorem dX2_seed_26 : decode cX2_seed 26 = .ok (.ireturn, 1) := dk_172 (dk_at dksX2_seed_1 2 rfl rfl)
abbrev cX2_keep : ByteArray := prog_12_method_61_code
def yX2_keep : MethodName := ⟨RX2, "keep", "(I)I"⟩
def dkwX2_keep_1 : List UInt8 := [182, 0, 85, 42, 89, 180, 0, 91, 4, 27, 120, 128, 181, 0, 91, 42, 3, 181, 0, 88, 4, 172]
abbrev dktX2_keep_1 : List UInt8 := dkwX2_keep_1 ++ []
def dkwX2_keep_0 : List UInt8 := [27, 3, 4, 184, 0, 32, 154, 0, 6, 18, 155, 172, 42, 3, 17, 12, 192, 17, 0, 192, 27, 104, 96]
abbrev dktX2_keep_0 : List UInt8 := dkwX2_keep_0 ++ dktX2_keep_1
theorem dksX2_keep_0 : cX2_keep.data.toList.drop 0 = dktX2_keep_0 := by decide +kernel
theorem dksX2_keep_1 : cX2_keep.data.toList.drop 23 = dktX2_keep_1 := dk_seg dksX2_keep_0 23 rfl rfl
theorem dX2_keep_0 : decode cX2_keep 0 = .ok (.iload_n 1, 1) := dk_27 (dk_at dksX2_keep_0 0 rfl rfl)
theorem dX2_keep_1 : decode cX2_keep 1 = .ok (.iconst 0, 1) := dk_3 (dk_at dksX2_keep_0 1 rfl rfl)
theorem dX2_keep_2 : decode cX2_keep 2 = .ok (.iconst 1, 1) := dk_4 (dk_at dksX2_keep_0 2 rfl rfl)
theorem dX2_keep_3 : decode cX2_keep 3 = .ok (.invokestatic 32, 3) := dk_184 0 32 (dk_at dksX2_keep_0 3 rfl rfl)
theorem dX2_keep_6 : decode cX2_keep 6 = .ok (.ifCond .ne 6, 3) := dk_154 0 6 (dk_at dksX2_keep_0 6 rfl rfl)
theorem dX2_keep_9 : decode cX2_keep 9 = .ok (.ldc 155, 2) := dk_18 155 (dk_at dksX2_keep_0 9 rfl rfl)
theorem dX2_keep_11 : decode cX2_keep 11 = .ok (.ireturn, 1) := dk_172 (dk_at dksX2_keep_0 11 rfl rfl)
theorem dX2_keep_12 : decode cX2_keep 12 = .ok (.aload_n 0, 1) := dk_42 (dk_at dksX2_keep_0 12 rfl rfl)
theorem dX2_keep_13 : decode cX2_keep 13 = .ok (.iconst 0, 1) := dk_3 (dk_at dksX2_keep_0 13 rfl rfl)
theorem dX2_keep_14 : decode cX2_keep 14 = .ok (.sipush 3264, 3) := dk_17 12 192 (dk_at dksX2_keep_0 14 rfl rfl)
theorem dX2_keep_17 : decode cX2_keep 17 = .ok (.sipush 192, 3) := dk_17 0 192 (dk_at dksX2_keep_0 17 rfl rfl)
theorem dX2_keep_20 : decode cX2_keep 20 = .ok (.iload_n 1, 1) := dk_27 (dk_at dksX2_keep_0 20 rfl rfl)
theorem dX2_keep_21 : decode cX2_keep 21 = .ok (.imul, 1) := dk_104 (dk_at dksX2_keep_0 21 rfl rfl)
theorem dX2_keep_22 : decode cX2_keep 22 = .ok (.iadd, 1) := dk_96 (dk_at dksX2_keep_0 22 rfl rfl)
theorem dX2_keep_23 : decode cX2_keep 23 = .ok (.invokevirtual 85, 3) := dk_182 0 85 (dk_at dksX2_keep_1 0 rfl rfl)
theorem dX2_keep_26 : decode cX2_keep 26 = .ok (.aload_n 0, 1) := dk_42 (dk_at dksX2_keep_1 3 rfl rfl)
theorem dX2_keep_27 : decode cX2_keep 27 = .ok (.dup, 1) := dk_89 (dk_at dksX2_keep_1 4 rfl rfl)
theorem dX2_keep_28 : decode cX2_keep 28 = .ok (.getfield 91, 3) := dk_180 0 91 (dk_at dksX2_keep_1 5 rfl rfl)
theorem dX2_keep_31 : decode cX2_keep 31 = .ok (.iconst 1, 1) := dk_4 (dk_at dksX2_keep_1 8 rfl rfl)
theorem dX2_keep_32 : decode cX2_keep 32 = .ok (.iload_n 1, 1) := dk_27 (dk_at dksX2_keep_1 9 rfl rfl)
theorem dX2_keep_33 : decode cX2_keep 33 = .ok (.ishl, 1) := dk_120 (dk_at dksX2_keep_1 10 rfl rfl)
theorem dX2_keep_34 : decode cX2_keep 34 = .ok (.ior, 1) := dk_128 (dk_at dksX2_keep_1 11 rfl rfl)
theorem dX2_keep_35 : decode cX2_keep 35 = .ok (.putfield 91, 3) := dk_181 0 91 (dk_at dksX2_keep_1 12 rfl rfl)
theorem dX2_keep_38 : decode cX2_keep 38 = .ok (.aload_n 0, 1) := dk_42 (dk_at dksX2_keep_1 15 rfl rfl)
theorem dX2_keep_39 : decode cX2_keep 39 = .ok (.iconst 0, 1) := dk_3 (dk_at dksX2_keep_1 16 rfl rfl)
theorem dX2_keep_40 : decode cX2_keep 40 = .ok (.putfield 88, 3) := dk_181 0 88 (dk_at dksX2_keep_1 17 rfl rfl)
theorem dX2_keep_43 : decode cX2_keep 43 = .ok (.iconst 1, 1) := dk_4 (dk_at dksX2_keep_1 20 rfl rfl)
theorem dX2_keep_44 : decode cX2_keep 44 = .ok (.ireturn, 1) := dk_172 (dk_at dksX2_keep_1 21 rfl rfl)
abbrev cX2_goBack : ByteArray := prog_12_method_62_code
def yX2_goBack : MethodName := ⟨RX2, "goBack", "(I)I"⟩
def dkwX2_goBack_1 : List UInt8 := [18, 178, 172, 42, 17, 12, 192, 17, 0, 192, 27, 104, 96, 3, 182, 0, 85, 42, 3, 181, 0, 88, 4, 172]
abbrev dktX2_goBack_1 : List UInt8 := dkwX2_goBack_1 ++ []
def dkwX2_goBack_0 : List UInt8 := [27, 3, 4, 184, 0, 32, 154, 0, 6, 18, 155, 172, 42, 180, 0, 91, 27, 184, 0, 196, 154, 0, 6]
abbrev dktX2_goBack_0 : List UInt8 := dkwX2_goBack_0 ++ dktX2_goBack_1
theorem dksX2_goBack_0 : cX2_goBack.data.toList.drop 0 = dktX2_goBack_0 := by decide +kernel
theorem dksX2_goBack_1 : cX2_goBack.data.toList.drop 23 = dktX2_goBack_1 := dk_seg dksX2_goBack_0 23 rfl rfl
theorem dX2_goBack_0 : decode cX2_goBack 0 = .ok (.iload_n 1, 1) := dk_27 (dk_at dksX2_goBack_0 0 rfl rfl)
theorem dX2_goBack_1 : decode cX2_goBack 1 = .ok (.iconst 0, 1) := dk_3 (dk_at dksX2_goBack_0 1 rfl rfl)
theorem dX2_goBack_2 : decode cX2_goBack 2 = .ok (.iconst 1, 1) := dk_4 (dk_at dksX2_goBack_0 2 rfl rfl)
theorem dX2_goBack_3 : decode cX2_goBack 3 = .ok (.invokestatic 32, 3) := dk_184 0 32 (dk_at dksX2_goBack_0 3 rfl rfl)
theorem dX2_goBack_6 : decode cX2_goBack 6 = .ok (.ifCond .ne 6, 3) := dk_154 0 6 (dk_at dksX2_goBack_0 6 rfl rfl)
theorem dX2_goBack_9 : decode cX2_goBack 9 = .ok (.ldc 155, 2) := dk_18 155 (dk_at dksX2_goBack_0 9 rfl rfl)
theorem dX2_goBack_11 : decode cX2_goBack 11 = .ok (.ireturn, 1) := dk_172 (dk_at dksX2_goBack_0 11 rfl rfl)
theorem dX2_goBack_12 : decode cX2_goBack 12 = .ok (.aload_n 0, 1) := dk_42 (dk_at dksX2_goBack_0 12 rfl rfl)
theorem dX2_goBack_13 : decode cX2_goBack 13 = .ok (.getfield 91, 3) := dk_180 0 91 (dk_at dksX2_goBack_0 13 rfl rfl)
theorem dX2_goBack_16 : decode cX2_goBack 16 = .ok (.iload_n 1, 1) := dk_27 (dk_at dksX2_goBack_0 16 rfl rfl)
theorem dX2_goBack_17 : decode cX2_goBack 17 = .ok (.invokestatic 196, 3) := dk_184 0 196 (dk_at dksX2_goBack_0 17 rfl rfl)
theorem dX2_goBack_20 : decode cX2_goBack 20 = .ok (.ifCond .ne 6, 3) := dk_154 0 6 (dk_at dksX2_goBack_0 20 rfl rfl)
theorem dX2_goBack_23 : decode cX2_goBack 23 = .ok (.ldc 178, 2) := dk_18 178 (dk_at dksX2_goBack_1 0 rfl rfl)
theorem dX2_goBack_25 : decode cX2_goBack 25 = .ok (.ireturn, 1) := dk_172 (dk_at dksX2_goBack_1 2 rfl rfl)
theorem dX2_goBack_26 : decode cX2_goBack 26 = .ok (.aload_n 0, 1) := dk_42 (dk_at dksX2_goBack_1 3 rfl rfl)
theorem dX2_goBack_27 : decode cX2_goBack 27 = .ok (.sipush 3264, 3) := dk_17 12 192 (dk_at dksX2_goBack_1 4 rfl rfl)
theorem dX2_goBack_30 : decode cX2_goBack 30 = .ok (.sipush 192, 3) := dk_17 0 192 (dk_at dksX2_goBack_1 7 rfl rfl)
theorem dX2_goBack_33 : decode cX2_goBack 33 = .ok (.iload_n 1, 1) := dk_27 (dk_at dksX2_goBack_1 10 rfl rfl)
theorem dX2_goBack_34 : decode cX2_goBack 34 = .ok (.imul, 1) := dk_104 (dk_at dksX2_goBack_1 11 rfl rfl)
theorem dX2_goBack_35 : decode cX2_goBack 35 = .ok (.iadd, 1) := dk_96 (dk_at dksX2_goBack_1 12 rfl rfl)
theorem dX2_goBack_36 : decode cX2_goBack 36 = .ok (.iconst 0, 1) := dk_3 (dk_at dksX2_goBack_1 13 rfl rfl)
theorem dX2_goBack_37 : decode cX2_goBack 37 = .ok (.invokevirtual 85, 3) := dk_182 0 85 (dk_at dksX2_goBack_1 14 rfl rfl)
theorem dX2_goBack_40 : decode cX2_goBack 40 = .ok (.aload_n 0, 1) := dk_42 (dk_at dksX2_goBack_1 17 rfl rfl)
theorem dX2_goBack_41 : decode cX2_goBack 41 = .ok (.iconst 0, 1) := dk_3 (dk_at dksX2_goBack_1 18 rfl rfl)
theorem dX2_goBack_42 : decode cX2_goBack 42 = .ok (.putfield 88, 3) := dk_181 0 88 (dk_at dksX2_goBack_1 19 rfl rfl)
theorem dX2_goBack_45 : decode cX2_goBack 45 = .ok (.iconst 1, 1) := dk_4 (dk_at dksX2_goBack_1 22 rfl rfl)
theorem dX2_goBack_46 : decode cX2_goBack 46 = .ok (.ireturn, 1) := dk_172 (dk_at dksX2_goBack_1 23 rfl rfl)
abbrev cX2_has : ByteArray := prog_12_method_4_code
def yX2_has : MethodName := ⟨RX2, "has", "(II)Z"⟩
def dkwX2_has_0 : List UInt8 := [26, 27, 122, 4, 126, 4, 160, 0, 7, 4, 167, 0, 4, 3, 172]
abbrev dktX2_has_0 : List UInt8 := dkwX2_has_0 ++ []
theorem dksX2_has_0 : cX2_has.data.toList.drop 0 = dktX2_has_0 := by decide +kernel
theorem dX2_has_0 : decode cX2_has 0 = .ok (.iload_n 0, 1) := dk_26 (dk_at dksX2_has_0 0 rfl rfl)
theorem dX2_has_1 : decode cX2_has 1 = .ok (.iload_n 1, 1) := dk_27 (dk_at dksX2_has_0 1 rfl rfl)
theorem dX2_has_2 : decode cX2_has 2 = .ok (.ishr, 1) := dk_122 (dk_at dksX2_has_0 2 rfl rfl)
theorem dX2_has_3 : decode cX2_has 3 = .ok (.iconst 1, 1) := dk_4 (dk_at dksX2_has_0 3 rfl rfl)
theorem dX2_has_4 : decode cX2_has 4 = .ok (.iand, 1) := dk_126 (dk_at dksX2_has_0 4 rfl rfl)
theorem dX2_has_5 : decode cX2_has 5 = .ok (.iconst 1, 1) := dk_4 (dk_at dksX2_has_0 5 rfl rfl)
theorem dX2_has_6 : decode cX2_has 6 = .ok (.if_icmp .ne 7, 3) := dk_160 0 7 (dk_at dksX2_has_0 6 rfl rfl)
theorem dX2_has_9 : decode cX2_has 9 = .ok (.iconst 1, 1) := dk_4 (dk_at dksX2_has_0 9 rfl rfl)
theorem dX2_has_10 : decode cX2_has 10 = .ok (.goto 4, 3) := dk_167 0 4 (dk_at dksX2_has_0 10 rfl rfl)
theorem dX2_has_13 : decode cX2_has 13 = .ok (.iconst 0, 1) := dk_3 (dk_at dksX2_has_0 13 rfl rfl)
theorem dX2_has_14 : decode cX2_has 14 = .ok (.ireturn, 1) := dk_172 (dk_at dksX2_has_0 14 rfl rfl)
theorem q71 : (Jvm.Cond.initialized "LiarClocksModel") ∈ lw_all := lw_g (lw_at lw_m1 3 rfl) rfl
theorem q781 : (Jvm.Cond.instantiable "LiarClocksModel" (17 : Nat)) ∈ lw_all := lw_g (lw_at lw_m3 233 rfl) rfl
theorem q783 : (Jvm.Cond.instanceMethod ({ cls := "LiarClocksModel", name := "<init>", desc := "()V" } : Jvm.MethodName)) ∈ lw_all := lw_g (lw_at lw_m3 235 rfl) rfl
theorem q784 : (Jvm.Cond.code ({ cls := "LiarClocksModel", name := "<init>", desc := "()V" } : Jvm.MethodName) prog_12_method_1_code (1 : Nat) (Option.none : Option Jvm.ClassFile.FieldType)) ∈ lw_all := lw_g (lw_at lw_m3 236 rfl) rfl
theorem q785 : (Jvm.Cond.methodLink "LiarClocksModel" (1 : Nat) ({ cls := "java/lang/Object", name := "<init>", desc := "()V" } : Jvm.MethodName)) ∈ lw_all := lw_g (lw_at lw_m3 237 rfl) rfl
theorem q786 : (Jvm.Cond.fieldLink "LiarClocksModel" (7 : Nat) "LiarClocksModel" "w" "[I") ∈ lw_all := lw_g (lw_at lw_m3 238 rfl) rfl
theorem q787 : (Jvm.Cond.fieldLink "LiarClocksModel" (88 : Nat) "LiarClocksModel" "known" "I") ∈ lw_all := lw_g (lw_at lw_m3 239 rfl) rfl
theorem q788 : (Jvm.Cond.fieldLink "LiarClocksModel" (91 : Nat) "LiarClocksModel" "kept" "I") ∈ lw_all := lw_g (lw_at lw_m4 0 rfl) rfl
theorem q789 : (Jvm.Cond.fieldLink "LiarClocksModel" (13 : Nat) "LiarClocksModel" "text" "[I") ∈ lw_all := lw_g (lw_at lw_m4 1 rfl) rfl
theorem q790 : (Jvm.Cond.fieldLink "LiarClocksModel" (37 : Nat) "LiarClocksModel" "size" "I") ∈ lw_all := lw_g (lw_at lw_m4 2 rfl) rfl
theorem q791 : (Jvm.Cond.fieldLink "LiarClocksModel" (16 : Nat) "LiarClocksModel" "fault" "I") ∈ lw_all := lw_g (lw_at lw_m4 3 rfl) rfl
theorem q792 : (Jvm.Cond.fieldLink "LiarClocksModel" (20 : Nat) "LiarClocksModel" "bookOf" "[I") ∈ lw_all := lw_g (lw_at lw_m4 4 rfl) rfl
theorem q793 : (Jvm.Cond.fieldLink "LiarClocksModel" (23 : Nat) "LiarClocksModel" "bookAim" "[I") ∈ lw_all := lw_g (lw_at lw_m4 5 rfl) rfl
theorem q794 : (Jvm.Cond.fieldLink "LiarClocksModel" (94 : Nat) "LiarClocksModel" "written" "I") ∈ lw_all := lw_g (lw_at lw_m4 6 rfl) rfl
theorem q795 : (Jvm.Cond.fieldLink "LiarClocksModel" (26 : Nat) "LiarClocksModel" "order" "[I") ∈ lw_all := lw_g (lw_at lw_m4 7 rfl) rfl
theorem q796 : (Jvm.Cond.fieldLink "LiarClocksModel" (29 : Nat) "LiarClocksModel" "next" "[I") ∈ lw_all := lw_g (lw_at lw_m4 8 rfl) rfl
theorem q797 : (Jvm.Cond.fieldLink "LiarClocksModel" (51 : Nat) "LiarClocksModel" "at" "I") ∈ lw_all := lw_g (lw_at lw_m4 9 rfl) rfl
theorem q798 : (Jvm.Cond.fieldLink "LiarClocksModel" (41 : Nat) "LiarClocksModel" "wrong" "I") ∈ lw_all := lw_g (lw_at lw_m4 10 rfl) rfl
theorem q799 : (Jvm.Cond.fieldLink "LiarClocksModel" (48 : Nat) "LiarClocksModel" "place" "I") ∈ lw_all := lw_g (lw_at lw_m4 11 rfl) rfl
theorem q800 : (Jvm.Cond.fieldLink "LiarClocksModel" (58 : Nat) "LiarClocksModel" "from" "I") ∈ lw_all := lw_g (lw_at lw_m4 12 rfl) rfl
theorem q801 : (Jvm.Cond.fieldLink "LiarClocksModel" (69 : Nat) "LiarClocksModel" "toldF" "I") ∈ lw_all := lw_g (lw_at lw_m4 13 rfl) rfl
theorem q802 : (Jvm.Cond.fieldLink "LiarClocksModel" (72 : Nat) "LiarClocksModel" "toldS" "I") ∈ lw_all := lw_g (lw_at lw_m4 14 rfl) rfl
theorem q803 : (Jvm.Cond.laysFinal "LiarClocksModel" "LiarClocksModel" "w" "[I") ∈ lw_all := lw_g (lw_at lw_m4 15 rfl) rfl
theorem q804 : (Jvm.Cond.soleField "LiarClocksModel" "w") ∈ lw_all := lw_g (lw_at lw_m4 16 rfl) rfl
theorem q805 : (Jvm.Cond.lays "LiarClocksModel" "LiarClocksModel" "known" "I") ∈ lw_all := lw_g (lw_at lw_m4 17 rfl) rfl
theorem q806 : (Jvm.Cond.soleField "LiarClocksModel" "known") ∈ lw_all := lw_g (lw_at lw_m4 18 rfl) rfl
theorem q807 : (Jvm.Cond.lays "LiarClocksModel" "LiarClocksModel" "kept" "I") ∈ lw_all := lw_g (lw_at lw_m4 19 rfl) rfl
theorem q808 : (Jvm.Cond.soleField "LiarClocksModel" "kept") ∈ lw_all := lw_g (lw_at lw_m4 20 rfl) rfl
theorem q809 : (Jvm.Cond.laysFinal "LiarClocksModel" "LiarClocksModel" "text" "[I") ∈ lw_all := lw_g (lw_at lw_m4 21 rfl) rfl
theorem q810 : (Jvm.Cond.soleField "LiarClocksModel" "text") ∈ lw_all := lw_g (lw_at lw_m4 22 rfl) rfl
theorem q811 : (Jvm.Cond.lays "LiarClocksModel" "LiarClocksModel" "size" "I") ∈ lw_all := lw_g (lw_at lw_m4 23 rfl) rfl
theorem q812 : (Jvm.Cond.soleField "LiarClocksModel" "size") ∈ lw_all := lw_g (lw_at lw_m4 24 rfl) rfl
theorem q813 : (Jvm.Cond.lays "LiarClocksModel" "LiarClocksModel" "fault" "I") ∈ lw_all := lw_g (lw_at lw_m4 25 rfl) rfl
theorem q814 : (Jvm.Cond.soleField "LiarClocksModel" "fault") ∈ lw_all := lw_g (lw_at lw_m4 26 rfl) rfl
theorem q815 : (Jvm.Cond.laysFinal "LiarClocksModel" "LiarClocksModel" "bookOf" "[I") ∈ lw_all := lw_g (lw_at lw_m4 27 rfl) rfl
theorem q816 : (Jvm.Cond.soleField "LiarClocksModel" "bookOf") ∈ lw_all := lw_g (lw_at lw_m4 28 rfl) rfl
theorem q817 : (Jvm.Cond.laysFinal "LiarClocksModel" "LiarClocksModel" "bookAim" "[I") ∈ lw_all := lw_g (lw_at lw_m4 29 rfl) rfl
theorem q818 : (Jvm.Cond.soleField "LiarClocksModel" "bookAim") ∈ lw_all := lw_g (lw_at lw_m4 30 rfl) rfl
theorem q819 : (Jvm.Cond.lays "LiarClocksModel" "LiarClocksModel" "written" "I") ∈ lw_all := lw_g (lw_at lw_m4 31 rfl) rfl
theorem q820 : (Jvm.Cond.soleField "LiarClocksModel" "written") ∈ lw_all := lw_g (lw_at lw_m4 32 rfl) rfl
theorem q821 : (Jvm.Cond.laysFinal "LiarClocksModel" "LiarClocksModel" "order" "[I") ∈ lw_all := lw_g (lw_at lw_m4 33 rfl) rfl
theorem q822 : (Jvm.Cond.soleField "LiarClocksModel" "order") ∈ lw_all := lw_g (lw_at lw_m4 34 rfl) rfl
theorem q823 : (Jvm.Cond.laysFinal "LiarClocksModel" "LiarClocksModel" "next" "[I") ∈ lw_all := lw_g (lw_at lw_m4 35 rfl) rfl
theorem q824 : (Jvm.Cond.soleField "LiarClocksModel" "next") ∈ lw_all := lw_g (lw_at lw_m4 36 rfl) rfl
theorem q825 : (Jvm.Cond.lays "LiarClocksModel" "LiarClocksModel" "at" "I") ∈ lw_all := lw_g (lw_at lw_m4 37 rfl) rfl
theorem q826 : (Jvm.Cond.soleField "LiarClocksModel" "at") ∈ lw_all := lw_g (lw_at lw_m4 38 rfl) rfl
theorem q827 : (Jvm.Cond.lays "LiarClocksModel" "LiarClocksModel" "wrong" "I") ∈ lw_all := lw_g (lw_at lw_m4 39 rfl) rfl
theorem q828 : (Jvm.Cond.soleField "LiarClocksModel" "wrong") ∈ lw_all := lw_g (lw_at lw_m4 40 rfl) rfl
theorem q829 : (Jvm.Cond.lays "LiarClocksModel" "LiarClocksModel" "place" "I") ∈ lw_all := lw_g (lw_at lw_m4 41 rfl) rfl
theorem q830 : (Jvm.Cond.soleField "LiarClocksModel" "place") ∈ lw_all := lw_g (lw_at lw_m4 42 rfl) rfl
theorem q831 : (Jvm.Cond.lays "LiarClocksModel" "LiarClocksModel" "from" "I") ∈ lw_all := lw_g (lw_at lw_m4 43 rfl) rfl
theorem q832 : (Jvm.Cond.soleField "LiarClocksModel" "from") ∈ lw_all := lw_g (lw_at lw_m4 44 rfl) rfl
theorem q833 : (Jvm.Cond.lays "LiarClocksModel" "LiarClocksModel" "toldF" "I") ∈ lw_all := lw_g (lw_at lw_m4 45 rfl) rfl
theorem q834 : (Jvm.Cond.soleField "LiarClocksModel" "toldF") ∈ lw_all := lw_g (lw_at lw_m4 46 rfl) rfl
theorem q835 : (Jvm.Cond.lays "LiarClocksModel" "LiarClocksModel" "toldS" "I") ∈ lw_all := lw_g (lw_at lw_m4 47 rfl) rfl
theorem q836 : (Jvm.Cond.soleField "LiarClocksModel" "toldS") ∈ lw_all := lw_g (lw_at lw_m4 48 rfl) rfl
theorem q837 : (Jvm.Cond.superclass "LiarClocksModel" "java/lang/Object") ∈ lw_all := lw_g (lw_at lw_m4 49 rfl) rfl
theorem q839 : (Jvm.Cond.instanceMethod ({ cls := "LiarClocksModel", name := "feed", desc := "(I)I" } : Jvm.MethodName)) ∈ lw_all := lw_g (lw_at lw_m4 51 rfl) rfl
theorem q840 : (Jvm.Cond.selects "LiarClocksModel" ({ cls := "LiarClocksModel", name := "feed", desc := "(I)I" } : Jvm.MethodName) ({ cls := "LiarClocksModel", name := "feed", desc := "(I)I" } : Jvm.MethodName)) ∈ lw_all := lw_g (lw_at lw_m4 52 rfl) rfl
theorem q841 : (Jvm.Cond.code ({ cls := "LiarClocksModel", name := "feed", desc := "(I)I" } : Jvm.MethodName) prog_12_method_10_code (2 : Nat) (Option.some Jvm.ClassFile.FieldType.int)) ∈ lw_all := lw_g (lw_at lw_m4 53 rfl) rfl
theorem q842 : (Jvm.Cond.methodLink "LiarClocksModel" (32 : Nat) ({ cls := "LiarClocksModel", name := "in", desc := "(III)Z" } : Jvm.MethodName)) ∈ lw_all := lw_g (lw_at lw_m4 54 rfl) rfl
theorem q843 : (Jvm.Cond.static ({ cls := "LiarClocksModel", name := "in", desc := "(III)Z" } : Jvm.MethodName)) ∈ lw_all := lw_g (lw_at lw_m4 55 rfl) rfl
theorem q844 : (Jvm.Cond.code ({ cls := "LiarClocksModel", name := "in", desc := "(III)Z" } : Jvm.MethodName) prog_12_method_3_code (3 : Nat) (Option.some Jvm.ClassFile.FieldType.boolean)) ∈ lw_all := lw_g (lw_at lw_m4 56 rfl) rfl
theorem q845 : (Jvm.Cond.constant "LiarClocksModel" (36 : Nat) (-1000000002 : Int32)) ∈ lw_all := lw_g (lw_at lw_m4 57 rfl) rfl
theorem q846 : (Jvm.Cond.constant "LiarClocksModel" (40 : Nat) (-1000000004 : Int32)) ∈ lw_all := lw_g (lw_at lw_m4 58 rfl) rfl
theorem q848 : (Jvm.Cond.instanceMethod ({ cls := "LiarClocksModel", name := "clocks", desc := "()I" } : Jvm.MethodName)) ∈ lw_all := lw_g (lw_at lw_m4 60 rfl) rfl
theorem q849 : (Jvm.Cond.selects "LiarClocksModel" ({ cls := "LiarClocksModel", name := "clocks", desc := "()I" } : Jvm.MethodName) ({ cls := "LiarClocksModel", name := "clocks", desc := "()I" } : Jvm.MethodName)) ∈ lw_all := lw_g (lw_at lw_m4 61 rfl) rfl
theorem q850 : (Jvm.Cond.code ({ cls := "LiarClocksModel", name := "clocks", desc := "()I" } : Jvm.MethodName) prog_12_method_18_code (2 : Nat) (Option.some Jvm.ClassFile.FieldType.int)) ∈ lw_all := lw_g (lw_at lw_m4 62 rfl) rfl
theorem q851 : (Jvm.Cond.methodLink "LiarClocksModel" (54 : Nat) ({ cls := "LiarClocksModel", name := "here", desc := "()I" } : Jvm.MethodName)) ∈ lw_all := lw_g (lw_at lw_m4 63 rfl) rfl
theorem q852 : (Jvm.Cond.privateMethod ({ cls := "LiarClocksModel", name := "here", desc := "()I" } : Jvm.MethodName)) ∈ lw_tbl := lw_at lw_m4 64 rfl
theorem q853 : (Jvm.Cond.instanceMethod ({ cls := "LiarClocksModel", name := "here", desc := "()I" } : Jvm.MethodName)) ∈ lw_all := lw_g (lw_at lw_m4 65 rfl) rfl
theorem q854 : (Jvm.Cond.code ({ cls := "LiarClocksModel", name := "here", desc := "()I" } : Jvm.MethodName) prog_12_method_13_code (1 : Nat) (Option.some Jvm.ClassFile.FieldType.int)) ∈ lw_all := lw_g (lw_at lw_m4 66 rfl) rfl
theorem q855 : (Jvm.Cond.methodLink "LiarClocksModel" (44 : Nat) ({ cls := "LiarClocksModel", name := "fine", desc := "()Z" } : Jvm.MethodName)) ∈ lw_all := lw_g (lw_at lw_m4 67 rfl) rfl
theorem q856 : (Jvm.Cond.privateMethod ({ cls := "LiarClocksModel", name := "fine", desc := "()Z" } : Jvm.MethodName)) ∈ lw_tbl := lw_at lw_m4 68 rfl
theorem q857 : (Jvm.Cond.instanceMethod ({ cls := "LiarClocksModel", name := "fine", desc := "()Z" } : Jvm.MethodName)) ∈ lw_all := lw_g (lw_at lw_m4 69 rfl) rfl
theorem q858 : (Jvm.Cond.code ({ cls := "LiarClocksModel", name := "fine", desc := "()Z" } : Jvm.MethodName) prog_12_method_11_code (1 : Nat) (Option.some Jvm.ClassFile.FieldType.boolean)) ∈ lw_all := lw_g (lw_at lw_m4 70 rfl) rfl
theorem q859 : (Jvm.Cond.methodLink "LiarClocksModel" (82 : Nat) ({ cls := "LiarClocksModel", name := "readClause", desc := "()V" } : Jvm.MethodName)) ∈ lw_all := lw_g (lw_at lw_m4 71 rfl) rfl
theorem q860 : (Jvm.Cond.privateMethod ({ cls := "LiarClocksModel", name := "readClause", desc := "()V" } : Jvm.MethodName)) ∈ lw_tbl := lw_at lw_m4 72 rfl
theorem q861 : (Jvm.Cond.instanceMethod ({ cls := "LiarClocksModel", name := "readClause", desc := "()V" } : Jvm.MethodName)) ∈ lw_all := lw_g (lw_at lw_m4 73 rfl) rfl
theorem q862 : (Jvm.Cond.code ({ cls := "LiarClocksModel", name := "readClause", desc := "()V" } : Jvm.MethodName) prog_12_method_17_code (3 : Nat) (Option.none : Option Jvm.ClassFile.FieldType)) ∈ lw_all := lw_g (lw_at lw_m4 74 rfl) rfl
theorem q863 : (Jvm.Cond.methodLink "LiarClocksModel" (75 : Nat) ({ cls := "LiarClocksModel", name := "readClock", desc := "(I)V" } : Jvm.MethodName)) ∈ lw_all := lw_g (lw_at lw_m4 75 rfl) rfl
theorem q864 : (Jvm.Cond.privateMethod ({ cls := "LiarClocksModel", name := "readClock", desc := "(I)V" } : Jvm.MethodName)) ∈ lw_tbl := lw_at lw_m4 76 rfl
theorem q865 : (Jvm.Cond.instanceMethod ({ cls := "LiarClocksModel", name := "readClock", desc := "(I)V" } : Jvm.MethodName)) ∈ lw_all := lw_g (lw_at lw_m4 77 rfl) rfl
theorem q866 : (Jvm.Cond.code ({ cls := "LiarClocksModel", name := "readClock", desc := "(I)V" } : Jvm.MethodName) prog_12_method_15_code (3 : Nat) (Option.none : Option Jvm.ClassFile.FieldType)) ∈ lw_all := lw_g (lw_at lw_m4 78 rfl) rfl
theorem q867 : (Jvm.Cond.methodLink "LiarClocksModel" (61 : Nat) ({ cls := "LiarClocksModel", name := "fail", desc := "(II)V" } : Jvm.MethodName)) ∈ lw_all := lw_g (lw_at lw_m4 79 rfl) rfl
theorem q868 : (Jvm.Cond.privateMethod ({ cls := "LiarClocksModel", name := "fail", desc := "(II)V" } : Jvm.MethodName)) ∈ lw_tbl := lw_at lw_m4 80 rfl
theorem q869 : (Jvm.Cond.instanceMethod ({ cls := "LiarClocksModel", name := "fail", desc := "(II)V" } : Jvm.MethodName)) ∈ lw_all := lw_g (lw_at lw_m4 81 rfl) rfl
theorem q870 : (Jvm.Cond.code ({ cls := "LiarClocksModel", name := "fail", desc := "(II)V" } : Jvm.MethodName) prog_12_method_12_code (3 : Nat) (Option.none : Option Jvm.ClassFile.FieldType)) ∈ lw_all := lw_g (lw_at lw_m4 82 rfl) rfl
theorem q871 : (Jvm.Cond.methodLink "LiarClocksModel" (65 : Nat) ({ cls := "LiarClocksModel", name := "number", desc := "(II)I" } : Jvm.MethodName)) ∈ lw_all := lw_g (lw_at lw_m4 83 rfl) rfl
theorem q872 : (Jvm.Cond.privateMethod ({ cls := "LiarClocksModel", name := "number", desc := "(II)I" } : Jvm.MethodName)) ∈ lw_tbl := lw_at lw_m4 84 rfl
theorem q873 : (Jvm.Cond.instanceMethod ({ cls := "LiarClocksModel", name := "number", desc := "(II)I" } : Jvm.MethodName)) ∈ lw_all := lw_g (lw_at lw_m4 85 rfl) rfl
theorem q874 : (Jvm.Cond.code ({ cls := "LiarClocksModel", name := "number", desc := "(II)I" } : Jvm.MethodName) prog_12_method_14_code (5 : Nat) (Option.some Jvm.ClassFile.FieldType.int)) ∈ lw_all := lw_g (lw_at lw_m4 86 rfl) rfl
theorem q875 : (Jvm.Cond.methodLink "LiarClocksModel" (79 : Nat) ({ cls := "LiarClocksModel", name := "readOther", desc := "(II)V" } : Jvm.MethodName)) ∈ lw_all := lw_g (lw_at lw_m4 87 rfl) rfl
theorem q876 : (Jvm.Cond.privateMethod ({ cls := "LiarClocksModel", name := "readOther", desc := "(II)V" } : Jvm.MethodName)) ∈ lw_tbl := lw_at lw_m4 88 rfl
theorem q877 : (Jvm.Cond.instanceMethod ({ cls := "LiarClocksModel", name := "readOther", desc := "(II)V" } : Jvm.MethodName)) ∈ lw_all := lw_g (lw_at lw_m4 89 rfl) rfl
theorem q878 : (Jvm.Cond.code ({ cls := "LiarClocksModel", name := "readOther", desc := "(II)V" } : Jvm.MethodName) prog_12_method_16_code (5 : Nat) (Option.none : Option Jvm.ClassFile.FieldType)) ∈ lw_all := lw_g (lw_at lw_m4 90 rfl) rfl
theorem q879 : (Jvm.Cond.methodLink "LiarClocksModel" (85 : Nat) ({ cls := "LiarClocksModel", name := "copyRow", desc := "(II)V" } : Jvm.MethodName)) ∈ lw_all := lw_g (lw_at lw_m4 91 rfl) rfl
theorem q880 : (Jvm.Cond.privateMethod ({ cls := "LiarClocksModel", name := "copyRow", desc := "(II)V" } : Jvm.MethodName)) ∈ lw_tbl := lw_at lw_m4 92 rfl
theorem q881 : (Jvm.Cond.instanceMethod ({ cls := "LiarClocksModel", name := "copyRow", desc := "(II)V" } : Jvm.MethodName)) ∈ lw_all := lw_g (lw_at lw_m4 93 rfl) rfl
theorem q882 : (Jvm.Cond.code ({ cls := "LiarClocksModel", name := "copyRow", desc := "(II)V" } : Jvm.MethodName) prog_12_method_5_code (4 : Nat) (Option.none : Option Jvm.ClassFile.FieldType)) ∈ lw_all := lw_g (lw_at lw_m4 94 rfl) rfl
theorem q884 : (Jvm.Cond.instanceMethod ({ cls := "LiarClocksModel", name := "fault", desc := "()I" } : Jvm.MethodName)) ∈ lw_all := lw_g (lw_at lw_m4 96 rfl) rfl
theorem q885 : (Jvm.Cond.selects "LiarClocksModel" ({ cls := "LiarClocksModel", name := "fault", desc := "()I" } : Jvm.MethodName) ({ cls := "LiarClocksModel", name := "fault", desc := "()I" } : Jvm.MethodName)) ∈ lw_all := lw_g (lw_at lw_m4 97 rfl) rfl
theorem q886 : (Jvm.Cond.code ({ cls := "LiarClocksModel", name := "fault", desc := "()I" } : Jvm.MethodName) prog_12_method_19_code (1 : Nat) (Option.some Jvm.ClassFile.FieldType.int)) ∈ lw_all := lw_g (lw_at lw_m4 98 rfl) rfl
theorem q888 : (Jvm.Cond.instanceMethod ({ cls := "LiarClocksModel", name := "told", desc := "(I)I" } : Jvm.MethodName)) ∈ lw_all := lw_g (lw_at lw_m4 100 rfl) rfl
theorem q889 : (Jvm.Cond.selects "LiarClocksModel" ({ cls := "LiarClocksModel", name := "told", desc := "(I)I" } : Jvm.MethodName) ({ cls := "LiarClocksModel", name := "told", desc := "(I)I" } : Jvm.MethodName)) ∈ lw_all := lw_g (lw_at lw_m4 101 rfl) rfl
theorem q890 : (Jvm.Cond.code ({ cls := "LiarClocksModel", name := "told", desc := "(I)I" } : Jvm.MethodName) prog_12_method_37_code (2 : Nat) (Option.some Jvm.ClassFile.FieldType.int)) ∈ lw_all := lw_g (lw_at lw_m4 102 rfl) rfl
theorem q891 : (Jvm.Cond.methodLink "LiarClocksModel" (140 : Nat) ({ cls := "LiarClocksModel", name := "setOf", desc := "(I)I" } : Jvm.MethodName)) ∈ lw_all := lw_g (lw_at lw_m4 103 rfl) rfl
theorem q892 : (Jvm.Cond.privateMethod ({ cls := "LiarClocksModel", name := "setOf", desc := "(I)I" } : Jvm.MethodName)) ∈ lw_tbl := lw_at lw_m4 104 rfl
theorem q893 : (Jvm.Cond.instanceMethod ({ cls := "LiarClocksModel", name := "setOf", desc := "(I)I" } : Jvm.MethodName)) ∈ lw_all := lw_g (lw_at lw_m4 105 rfl) rfl
theorem q894 : (Jvm.Cond.code ({ cls := "LiarClocksModel", name := "setOf", desc := "(I)I" } : Jvm.MethodName) prog_12_method_34_code (5 : Nat) (Option.some Jvm.ClassFile.FieldType.int)) ∈ lw_all := lw_g (lw_at lw_m4 106 rfl) rfl
theorem q895 : (Jvm.Cond.methodLink "LiarClocksModel" (114 : Nat) ({ cls := "LiarClocksModel", name := "isTrue", desc := "(II)Z" } : Jvm.MethodName)) ∈ lw_all := lw_g (lw_at lw_m4 107 rfl) rfl
theorem q896 : (Jvm.Cond.privateMethod ({ cls := "LiarClocksModel", name := "isTrue", desc := "(II)Z" } : Jvm.MethodName)) ∈ lw_tbl := lw_at lw_m4 108 rfl
theorem q897 : (Jvm.Cond.instanceMethod ({ cls := "LiarClocksModel", name := "isTrue", desc := "(II)Z" } : Jvm.MethodName)) ∈ lw_all := lw_g (lw_at lw_m4 109 rfl) rfl
theorem q898 : (Jvm.Cond.code ({ cls := "LiarClocksModel", name := "isTrue", desc := "(II)Z" } : Jvm.MethodName) prog_12_method_8_code (3 : Nat) (Option.some Jvm.ClassFile.FieldType.boolean)) ∈ lw_all := lw_g (lw_at lw_m4 110 rfl) rfl
theorem q899 : (Jvm.Cond.methodLink "LiarClocksModel" (123 : Nat) ({ cls := "LiarClocksModel", name := "apart", desc := "(I)I" } : Jvm.MethodName)) ∈ lw_all := lw_g (lw_at lw_m4 111 rfl) rfl
theorem q900 : (Jvm.Cond.privateMethod ({ cls := "LiarClocksModel", name := "apart", desc := "(I)I" } : Jvm.MethodName)) ∈ lw_tbl := lw_at lw_m4 112 rfl
theorem q901 : (Jvm.Cond.instanceMethod ({ cls := "LiarClocksModel", name := "apart", desc := "(I)I" } : Jvm.MethodName)) ∈ lw_all := lw_g (lw_at lw_m4 113 rfl) rfl
theorem q902 : (Jvm.Cond.code ({ cls := "LiarClocksModel", name := "apart", desc := "(I)I" } : Jvm.MethodName) prog_12_method_26_code (5 : Nat) (Option.some Jvm.ClassFile.FieldType.int)) ∈ lw_all := lw_g (lw_at lw_m4 114 rfl) rfl
theorem q903 : (Jvm.Cond.methodLink "LiarClocksModel" (97 : Nat) ({ cls := "LiarClocksModel", name := "aim", desc := "(II)I" } : Jvm.MethodName)) ∈ lw_all := lw_g (lw_at lw_m4 115 rfl) rfl
theorem q904 : (Jvm.Cond.privateMethod ({ cls := "LiarClocksModel", name := "aim", desc := "(II)I" } : Jvm.MethodName)) ∈ lw_tbl := lw_at lw_m4 116 rfl
theorem q905 : (Jvm.Cond.instanceMethod ({ cls := "LiarClocksModel", name := "aim", desc := "(II)I" } : Jvm.MethodName)) ∈ lw_all := lw_g (lw_at lw_m4 117 rfl) rfl
theorem q906 : (Jvm.Cond.code ({ cls := "LiarClocksModel", name := "aim", desc := "(II)I" } : Jvm.MethodName) prog_12_method_7_code (3 : Nat) (Option.some Jvm.ClassFile.FieldType.int)) ∈ lw_all := lw_g (lw_at lw_m4 118 rfl) rfl
theorem q907 : (Jvm.Cond.methodLink "LiarClocksModel" (143 : Nat) ({ cls := "LiarClocksModel", name := "worst", desc := "()I" } : Jvm.MethodName)) ∈ lw_all := lw_g (lw_at lw_m4 119 rfl) rfl
theorem q908 : (Jvm.Cond.privateMethod ({ cls := "LiarClocksModel", name := "worst", desc := "()I" } : Jvm.MethodName)) ∈ lw_tbl := lw_at lw_m4 120 rfl
theorem q909 : (Jvm.Cond.instanceMethod ({ cls := "LiarClocksModel", name := "worst", desc := "()I" } : Jvm.MethodName)) ∈ lw_all := lw_g (lw_at lw_m4 121 rfl) rfl
theorem q910 : (Jvm.Cond.code ({ cls := "LiarClocksModel", name := "worst", desc := "()I" } : Jvm.MethodName) prog_12_method_30_code (7 : Nat) (Option.some Jvm.ClassFile.FieldType.int)) ∈ lw_all := lw_g (lw_at lw_m4 122 rfl) rfl
theorem q911 : (Jvm.Cond.methodLink "LiarClocksModel" (100 : Nat) ({ cls := "LiarClocksModel", name := "allStruck", desc := "(II)Z" } : Jvm.MethodName)) ∈ lw_all := lw_g (lw_at lw_m4 123 rfl) rfl
theorem q912 : (Jvm.Cond.privateMethod ({ cls := "LiarClocksModel", name := "allStruck", desc := "(II)Z" } : Jvm.MethodName)) ∈ lw_tbl := lw_at lw_m4 124 rfl
theorem q913 : (Jvm.Cond.instanceMethod ({ cls := "LiarClocksModel", name := "allStruck", desc := "(II)Z" } : Jvm.MethodName)) ∈ lw_all := lw_g (lw_at lw_m4 125 rfl) rfl
theorem q914 : (Jvm.Cond.code ({ cls := "LiarClocksModel", name := "allStruck", desc := "(II)Z" } : Jvm.MethodName) prog_12_method_22_code (3 : Nat) (Option.some Jvm.ClassFile.FieldType.boolean)) ∈ lw_all := lw_g (lw_at lw_m4 126 rfl) rfl
theorem q915 : (Jvm.Cond.methodLink "LiarClocksModel" (127 : Nat) ({ cls := "LiarClocksModel", name := "liars", desc := "()I" } : Jvm.MethodName)) ∈ lw_all := lw_g (lw_at lw_m4 127 rfl) rfl
theorem q916 : (Jvm.Cond.privateMethod ({ cls := "LiarClocksModel", name := "liars", desc := "()I" } : Jvm.MethodName)) ∈ lw_tbl := lw_at lw_m4 128 rfl
theorem q917 : (Jvm.Cond.instanceMethod ({ cls := "LiarClocksModel", name := "liars", desc := "()I" } : Jvm.MethodName)) ∈ lw_all := lw_g (lw_at lw_m4 129 rfl) rfl
theorem q918 : (Jvm.Cond.code ({ cls := "LiarClocksModel", name := "liars", desc := "()I" } : Jvm.MethodName) prog_12_method_28_code (3 : Nat) (Option.some Jvm.ClassFile.FieldType.int)) ∈ lw_all := lw_g (lw_at lw_m4 130 rfl) rfl
theorem q919 : (Jvm.Cond.methodLink "LiarClocksModel" (120 : Nat) ({ cls := "LiarClocksModel", name := "isLiar", desc := "(II)Z" } : Jvm.MethodName)) ∈ lw_all := lw_g (lw_at lw_m4 131 rfl) rfl
theorem q920 : (Jvm.Cond.privateMethod ({ cls := "LiarClocksModel", name := "isLiar", desc := "(II)Z" } : Jvm.MethodName)) ∈ lw_tbl := lw_at lw_m4 132 rfl
theorem q921 : (Jvm.Cond.instanceMethod ({ cls := "LiarClocksModel", name := "isLiar", desc := "(II)Z" } : Jvm.MethodName)) ∈ lw_all := lw_g (lw_at lw_m4 133 rfl) rfl
theorem q922 : (Jvm.Cond.code ({ cls := "LiarClocksModel", name := "isLiar", desc := "(II)Z" } : Jvm.MethodName) prog_12_method_9_code (3 : Nat) (Option.some Jvm.ClassFile.FieldType.boolean)) ∈ lw_all := lw_g (lw_at lw_m4 134 rfl) rfl
theorem q923 : (Jvm.Cond.constant "LiarClocksModel" (130 : Nat) (1000000 : Int32)) ∈ lw_all := lw_g (lw_at lw_m4 135 rfl) rfl
theorem q924 : (Jvm.Cond.constant "LiarClocksModel" (131 : Nat) (500000000 : Int32)) ∈ lw_all := lw_g (lw_at lw_m4 136 rfl) rfl
theorem q925 : (Jvm.Cond.methodLink "LiarClocksModel" (132 : Nat) ({ cls := "LiarClocksModel", name := "extreme", desc := "(II)I" } : Jvm.MethodName)) ∈ lw_all := lw_g (lw_at lw_m4 137 rfl) rfl
theorem q926 : (Jvm.Cond.privateMethod ({ cls := "LiarClocksModel", name := "extreme", desc := "(II)I" } : Jvm.MethodName)) ∈ lw_tbl := lw_at lw_m4 138 rfl
theorem q927 : (Jvm.Cond.instanceMethod ({ cls := "LiarClocksModel", name := "extreme", desc := "(II)I" } : Jvm.MethodName)) ∈ lw_all := lw_g (lw_at lw_m4 139 rfl) rfl
theorem q928 : (Jvm.Cond.code ({ cls := "LiarClocksModel", name := "extreme", desc := "(II)I" } : Jvm.MethodName) prog_12_method_29_code (4 : Nat) (Option.some Jvm.ClassFile.FieldType.int)) ∈ lw_all := lw_g (lw_at lw_m4 140 rfl) rfl
theorem q929 : (Jvm.Cond.methodLink "LiarClocksModel" (104 : Nat) ({ cls := "LiarClocksModel", name := "heardOf", desc := "(III)I" } : Jvm.MethodName)) ∈ lw_all := lw_g (lw_at lw_m4 141 rfl) rfl
theorem q930 : (Jvm.Cond.privateMethod ({ cls := "LiarClocksModel", name := "heardOf", desc := "(III)I" } : Jvm.MethodName)) ∈ lw_tbl := lw_at lw_m4 142 rfl
theorem q931 : (Jvm.Cond.instanceMethod ({ cls := "LiarClocksModel", name := "heardOf", desc := "(III)I" } : Jvm.MethodName)) ∈ lw_all := lw_g (lw_at lw_m4 143 rfl) rfl
theorem q932 : (Jvm.Cond.code ({ cls := "LiarClocksModel", name := "heardOf", desc := "(III)I" } : Jvm.MethodName) prog_12_method_20_code (5 : Nat) (Option.some Jvm.ClassFile.FieldType.int)) ∈ lw_all := lw_g (lw_at lw_m4 144 rfl) rfl
theorem q933 : (Jvm.Cond.methodLink "LiarClocksModel" (108 : Nat) ({ cls := "LiarClocksModel", name := "put", desc := "(II)V" } : Jvm.MethodName)) ∈ lw_all := lw_g (lw_at lw_m4 145 rfl) rfl
theorem q934 : (Jvm.Cond.privateMethod ({ cls := "LiarClocksModel", name := "put", desc := "(II)V" } : Jvm.MethodName)) ∈ lw_tbl := lw_at lw_m4 146 rfl
theorem q935 : (Jvm.Cond.instanceMethod ({ cls := "LiarClocksModel", name := "put", desc := "(II)V" } : Jvm.MethodName)) ∈ lw_all := lw_g (lw_at lw_m4 147 rfl) rfl
theorem q936 : (Jvm.Cond.code ({ cls := "LiarClocksModel", name := "put", desc := "(II)V" } : Jvm.MethodName) prog_12_method_21_code (4 : Nat) (Option.none : Option Jvm.ClassFile.FieldType)) ∈ lw_all := lw_g (lw_at lw_m4 148 rfl) rfl
theorem q937 : (Jvm.Cond.methodLink "LiarClocksModel" (111 : Nat) ({ cls := "LiarClocksModel", name := "middle", desc := "(II)I" } : Jvm.MethodName)) ∈ lw_all := lw_g (lw_at lw_m4 149 rfl) rfl
theorem q938 : (Jvm.Cond.privateMethod ({ cls := "LiarClocksModel", name := "middle", desc := "(II)I" } : Jvm.MethodName)) ∈ lw_tbl := lw_at lw_m4 150 rfl
theorem q939 : (Jvm.Cond.instanceMethod ({ cls := "LiarClocksModel", name := "middle", desc := "(II)I" } : Jvm.MethodName)) ∈ lw_all := lw_g (lw_at lw_m4 151 rfl) rfl
theorem q940 : (Jvm.Cond.code ({ cls := "LiarClocksModel", name := "middle", desc := "(II)I" } : Jvm.MethodName) prog_12_method_23_code (4 : Nat) (Option.some Jvm.ClassFile.FieldType.int)) ∈ lw_all := lw_g (lw_at lw_m4 152 rfl) rfl
theorem q941 : (Jvm.Cond.constant "LiarClocksModel" (135 : Nat) (-500000000 : Int32)) ∈ lw_all := lw_g (lw_at lw_m4 153 rfl) rfl
theorem q942 : (Jvm.Cond.methodLink "LiarClocksModel" (146 : Nat) ({ cls := "LiarClocksModel", name := "mayLie", desc := "()I" } : Jvm.MethodName)) ∈ lw_all := lw_g (lw_at lw_m4 154 rfl) rfl
theorem q943 : (Jvm.Cond.privateMethod ({ cls := "LiarClocksModel", name := "mayLie", desc := "()I" } : Jvm.MethodName)) ∈ lw_tbl := lw_at lw_m4 155 rfl
theorem q944 : (Jvm.Cond.instanceMethod ({ cls := "LiarClocksModel", name := "mayLie", desc := "()I" } : Jvm.MethodName)) ∈ lw_all := lw_g (lw_at lw_m4 156 rfl) rfl
theorem q945 : (Jvm.Cond.code ({ cls := "LiarClocksModel", name := "mayLie", desc := "()I" } : Jvm.MethodName) prog_12_method_31_code (3 : Nat) (Option.some Jvm.ClassFile.FieldType.int)) ∈ lw_all := lw_g (lw_at lw_m4 157 rfl) rfl
theorem q946 : (Jvm.Cond.methodLink "LiarClocksModel" (149 : Nat) ({ cls := "LiarClocksModel", name := "rungSet", desc := "()I" } : Jvm.MethodName)) ∈ lw_all := lw_g (lw_at lw_m4 158 rfl) rfl
theorem q947 : (Jvm.Cond.privateMethod ({ cls := "LiarClocksModel", name := "rungSet", desc := "()I" } : Jvm.MethodName)) ∈ lw_tbl := lw_at lw_m4 159 rfl
theorem q948 : (Jvm.Cond.instanceMethod ({ cls := "LiarClocksModel", name := "rungSet", desc := "()I" } : Jvm.MethodName)) ∈ lw_all := lw_g (lw_at lw_m4 160 rfl) rfl
theorem q949 : (Jvm.Cond.code ({ cls := "LiarClocksModel", name := "rungSet", desc := "()I" } : Jvm.MethodName) prog_12_method_35_code (3 : Nat) (Option.some Jvm.ClassFile.FieldType.int)) ∈ lw_all := lw_g (lw_at lw_m4 161 rfl) rfl
theorem q950 : (Jvm.Cond.methodLink "LiarClocksModel" (152 : Nat) ({ cls := "LiarClocksModel", name := "wrongEntry", desc := "()I" } : Jvm.MethodName)) ∈ lw_all := lw_g (lw_at lw_m4 162 rfl) rfl
theorem q951 : (Jvm.Cond.privateMethod ({ cls := "LiarClocksModel", name := "wrongEntry", desc := "()I" } : Jvm.MethodName)) ∈ lw_tbl := lw_at lw_m4 163 rfl
theorem q952 : (Jvm.Cond.instanceMethod ({ cls := "LiarClocksModel", name := "wrongEntry", desc := "()I" } : Jvm.MethodName)) ∈ lw_all := lw_g (lw_at lw_m4 164 rfl) rfl
theorem q953 : (Jvm.Cond.code ({ cls := "LiarClocksModel", name := "wrongEntry", desc := "()I" } : Jvm.MethodName) prog_12_method_36_code (2 : Nat) (Option.some Jvm.ClassFile.FieldType.int)) ∈ lw_all := lw_g (lw_at lw_m4 165 rfl) rfl
theorem q954 : (Jvm.Cond.methodLink "LiarClocksModel" (136 : Nat) ({ cls := "LiarClocksModel", name := "isClock", desc := "(I)Z" } : Jvm.MethodName)) ∈ lw_all := lw_g (lw_at lw_m4 166 rfl) rfl
theorem q955 : (Jvm.Cond.privateMethod ({ cls := "LiarClocksModel", name := "isClock", desc := "(I)Z" } : Jvm.MethodName)) ∈ lw_tbl := lw_at lw_m4 167 rfl
theorem q956 : (Jvm.Cond.instanceMethod ({ cls := "LiarClocksModel", name := "isClock", desc := "(I)Z" } : Jvm.MethodName)) ∈ lw_all := lw_g (lw_at lw_m4 168 rfl) rfl
theorem q957 : (Jvm.Cond.code ({ cls := "LiarClocksModel", name := "isClock", desc := "(I)Z" } : Jvm.MethodName) prog_12_method_6_code (2 : Nat) (Option.some Jvm.ClassFile.FieldType.boolean)) ∈ lw_all := lw_g (lw_at lw_m4 169 rfl) rfl
theorem q959 : (Jvm.Cond.instanceMethod ({ cls := "LiarClocksModel", name := "clock", desc := "(II)I" } : Jvm.MethodName)) ∈ lw_all := lw_g (lw_at lw_m4 171 rfl) rfl
theorem q960 : (Jvm.Cond.selects "LiarClocksModel" ({ cls := "LiarClocksModel", name := "clock", desc := "(II)I" } : Jvm.MethodName) ({ cls := "LiarClocksModel", name := "clock", desc := "(II)I" } : Jvm.MethodName)) ∈ lw_all := lw_g (lw_at lw_m4 172 rfl) rfl
theorem q961 : (Jvm.Cond.code ({ cls := "LiarClocksModel", name := "clock", desc := "(II)I" } : Jvm.MethodName) prog_12_method_38_code (3 : Nat) (Option.some Jvm.ClassFile.FieldType.int)) ∈ lw_all := lw_g (lw_at lw_m4 173 rfl) rfl
theorem q962 : (Jvm.Cond.constant "LiarClocksModel" (155 : Nat) (-1000000001 : Int32)) ∈ lw_all := lw_g (lw_at lw_m4 174 rfl) rfl
theorem q963 : (Jvm.Cond.constant "LiarClocksModel" (156 : Nat) (100000 : Int32)) ∈ lw_all := lw_g (lw_at lw_m4 175 rfl) rfl
theorem q964 : (Jvm.Cond.methodLink "LiarClocksModel" (117 : Nat) ({ cls := "LiarClocksModel", name := "middleOf", desc := "(II)I" } : Jvm.MethodName)) ∈ lw_all := lw_g (lw_at lw_m4 176 rfl) rfl
theorem q965 : (Jvm.Cond.privateMethod ({ cls := "LiarClocksModel", name := "middleOf", desc := "(II)I" } : Jvm.MethodName)) ∈ lw_tbl := lw_at lw_m4 177 rfl
theorem q966 : (Jvm.Cond.instanceMethod ({ cls := "LiarClocksModel", name := "middleOf", desc := "(II)I" } : Jvm.MethodName)) ∈ lw_all := lw_g (lw_at lw_m4 178 rfl) rfl
theorem q967 : (Jvm.Cond.code ({ cls := "LiarClocksModel", name := "middleOf", desc := "(II)I" } : Jvm.MethodName) prog_12_method_24_code (4 : Nat) (Option.some Jvm.ClassFile.FieldType.int)) ∈ lw_all := lw_g (lw_at lw_m4 179 rfl) rfl
theorem q969 : (Jvm.Cond.instanceMethod ({ cls := "LiarClocksModel", name := "heard", desc := "(III)I" } : Jvm.MethodName)) ∈ lw_all := lw_g (lw_at lw_m4 181 rfl) rfl
theorem q970 : (Jvm.Cond.selects "LiarClocksModel" ({ cls := "LiarClocksModel", name := "heard", desc := "(III)I" } : Jvm.MethodName) ({ cls := "LiarClocksModel", name := "heard", desc := "(III)I" } : Jvm.MethodName)) ∈ lw_all := lw_g (lw_at lw_m4 182 rfl) rfl
theorem q971 : (Jvm.Cond.code ({ cls := "LiarClocksModel", name := "heard", desc := "(III)I" } : Jvm.MethodName) prog_12_method_40_code (4 : Nat) (Option.some Jvm.ClassFile.FieldType.int)) ∈ lw_all := lw_g (lw_at lw_m4 183 rfl) rfl
theorem q972 : (Jvm.Cond.methodLink "LiarClocksModel" (157 : Nat) ({ cls := "LiarClocksModel", name := "arePair", desc := "(II)Z" } : Jvm.MethodName)) ∈ lw_all := lw_g (lw_at lw_m4 184 rfl) rfl
theorem q973 : (Jvm.Cond.privateMethod ({ cls := "LiarClocksModel", name := "arePair", desc := "(II)Z" } : Jvm.MethodName)) ∈ lw_tbl := lw_at lw_m4 185 rfl
theorem q974 : (Jvm.Cond.instanceMethod ({ cls := "LiarClocksModel", name := "arePair", desc := "(II)Z" } : Jvm.MethodName)) ∈ lw_all := lw_g (lw_at lw_m4 186 rfl) rfl
theorem q975 : (Jvm.Cond.code ({ cls := "LiarClocksModel", name := "arePair", desc := "(II)Z" } : Jvm.MethodName) prog_12_method_39_code (3 : Nat) (Option.some Jvm.ClassFile.FieldType.boolean)) ∈ lw_all := lw_g (lw_at lw_m4 187 rfl) rfl
theorem q976 : (Jvm.Cond.methodLink "LiarClocksModel" (160 : Nat) ({ cls := "LiarClocksModel", name := "rank", desc := "(II)I" } : Jvm.MethodName)) ∈ lw_all := lw_g (lw_at lw_m4 188 rfl) rfl
theorem q977 : (Jvm.Cond.privateMethod ({ cls := "LiarClocksModel", name := "rank", desc := "(II)I" } : Jvm.MethodName)) ∈ lw_tbl := lw_at lw_m4 189 rfl
theorem q978 : (Jvm.Cond.instanceMethod ({ cls := "LiarClocksModel", name := "rank", desc := "(II)I" } : Jvm.MethodName)) ∈ lw_all := lw_g (lw_at lw_m4 190 rfl) rfl
theorem q979 : (Jvm.Cond.code ({ cls := "LiarClocksModel", name := "rank", desc := "(II)I" } : Jvm.MethodName) prog_12_method_32_code (7 : Nat) (Option.some Jvm.ClassFile.FieldType.int)) ∈ lw_all := lw_g (lw_at lw_m4 191 rfl) rfl
theorem q980 : (Jvm.Cond.methodLink "LiarClocksModel" (163 : Nat) ({ cls := "LiarClocksModel", name := "farthest", desc := "(II)I" } : Jvm.MethodName)) ∈ lw_all := lw_g (lw_at lw_m4 192 rfl) rfl
theorem q981 : (Jvm.Cond.privateMethod ({ cls := "LiarClocksModel", name := "farthest", desc := "(II)I" } : Jvm.MethodName)) ∈ lw_tbl := lw_at lw_m4 193 rfl
theorem q982 : (Jvm.Cond.instanceMethod ({ cls := "LiarClocksModel", name := "farthest", desc := "(II)I" } : Jvm.MethodName)) ∈ lw_all := lw_g (lw_at lw_m4 194 rfl) rfl
theorem q983 : (Jvm.Cond.code ({ cls := "LiarClocksModel", name := "farthest", desc := "(II)I" } : Jvm.MethodName) prog_12_method_33_code (9 : Nat) (Option.some Jvm.ClassFile.FieldType.int)) ∈ lw_all := lw_g (lw_at lw_m4 195 rfl) rfl
theorem q985 : (Jvm.Cond.instanceMethod ({ cls := "LiarClocksModel", name := "alarmAt", desc := "(II)I" } : Jvm.MethodName)) ∈ lw_all := lw_g (lw_at lw_m4 197 rfl) rfl
theorem q986 : (Jvm.Cond.selects "LiarClocksModel" ({ cls := "LiarClocksModel", name := "alarmAt", desc := "(II)I" } : Jvm.MethodName) ({ cls := "LiarClocksModel", name := "alarmAt", desc := "(II)I" } : Jvm.MethodName)) ∈ lw_all := lw_g (lw_at lw_m4 198 rfl) rfl
theorem q987 : (Jvm.Cond.code ({ cls := "LiarClocksModel", name := "alarmAt", desc := "(II)I" } : Jvm.MethodName) prog_12_method_41_code (3 : Nat) (Option.some Jvm.ClassFile.FieldType.int)) ∈ lw_all := lw_g (lw_at lw_m4 199 rfl) rfl
theorem q989 : (Jvm.Cond.instanceMethod ({ cls := "LiarClocksModel", name := "tick", desc := "(I)I" } : Jvm.MethodName)) ∈ lw_all := lw_g (lw_at lw_m4 201 rfl) rfl
theorem q990 : (Jvm.Cond.selects "LiarClocksModel" ({ cls := "LiarClocksModel", name := "tick", desc := "(I)I" } : Jvm.MethodName) ({ cls := "LiarClocksModel", name := "tick", desc := "(I)I" } : Jvm.MethodName)) ∈ lw_all := lw_g (lw_at lw_m4 202 rfl) rfl
theorem q991 : (Jvm.Cond.code ({ cls := "LiarClocksModel", name := "tick", desc := "(I)I" } : Jvm.MethodName) prog_12_method_43_code (4 : Nat) (Option.some Jvm.ClassFile.FieldType.int)) ∈ lw_all := lw_g (lw_at lw_m4 203 rfl) rfl
theorem q992 : (Jvm.Cond.methodLink "LiarClocksModel" (166 : Nat) ({ cls := "LiarClocksModel", name := "remember", desc := "()V" } : Jvm.MethodName)) ∈ lw_all := lw_g (lw_at lw_m4 204 rfl) rfl
theorem q993 : (Jvm.Cond.privateMethod ({ cls := "LiarClocksModel", name := "remember", desc := "()V" } : Jvm.MethodName)) ∈ lw_tbl := lw_at lw_m4 205 rfl
theorem q994 : (Jvm.Cond.instanceMethod ({ cls := "LiarClocksModel", name := "remember", desc := "()V" } : Jvm.MethodName)) ∈ lw_all := lw_g (lw_at lw_m4 206 rfl) rfl
theorem q995 : (Jvm.Cond.code ({ cls := "LiarClocksModel", name := "remember", desc := "()V" } : Jvm.MethodName) prog_12_method_42_code (2 : Nat) (Option.none : Option Jvm.ClassFile.FieldType)) ∈ lw_all := lw_g (lw_at lw_m4 207 rfl) rfl
theorem q996 : (Jvm.Cond.methodLink "LiarClocksModel" (169 : Nat) ({ cls := "LiarClocksModel", name := "tickOne", desc := "()V" } : Jvm.MethodName)) ∈ lw_all := lw_g (lw_at lw_m4 208 rfl) rfl
theorem q997 : (Jvm.Cond.privateMethod ({ cls := "LiarClocksModel", name := "tickOne", desc := "()V" } : Jvm.MethodName)) ∈ lw_tbl := lw_at lw_m4 209 rfl
theorem q998 : (Jvm.Cond.instanceMethod ({ cls := "LiarClocksModel", name := "tickOne", desc := "()V" } : Jvm.MethodName)) ∈ lw_all := lw_g (lw_at lw_m4 210 rfl) rfl
theorem q999 : (Jvm.Cond.code ({ cls := "LiarClocksModel", name := "tickOne", desc := "()V" } : Jvm.MethodName) prog_12_method_27_code (3 : Nat) (Option.none : Option Jvm.ClassFile.FieldType)) ∈ lw_all := lw_g (lw_at lw_m4 211 rfl) rfl
theorem q1001 : (Jvm.Cond.instanceMethod ({ cls := "LiarClocksModel", name := "round", desc := "()I" } : Jvm.MethodName)) ∈ lw_all := lw_g (lw_at lw_m4 213 rfl) rfl
theorem q1002 : (Jvm.Cond.selects "LiarClocksModel" ({ cls := "LiarClocksModel", name := "round", desc := "()I" } : Jvm.MethodName) ({ cls := "LiarClocksModel", name := "round", desc := "()I" } : Jvm.MethodName)) ∈ lw_all := lw_g (lw_at lw_m4 214 rfl) rfl
theorem q1003 : (Jvm.Cond.code ({ cls := "LiarClocksModel", name := "round", desc := "()I" } : Jvm.MethodName) prog_12_method_44_code (1 : Nat) (Option.some Jvm.ClassFile.FieldType.int)) ∈ lw_all := lw_g (lw_at lw_m4 215 rfl) rfl
theorem q1004 : (Jvm.Cond.methodLink "LiarClocksModel" (172 : Nat) ({ cls := "LiarClocksModel", name := "roundIn", desc := "(I)V" } : Jvm.MethodName)) ∈ lw_all := lw_g (lw_at lw_m4 216 rfl) rfl
theorem q1005 : (Jvm.Cond.privateMethod ({ cls := "LiarClocksModel", name := "roundIn", desc := "(I)V" } : Jvm.MethodName)) ∈ lw_tbl := lw_at lw_m4 217 rfl
theorem q1006 : (Jvm.Cond.instanceMethod ({ cls := "LiarClocksModel", name := "roundIn", desc := "(I)V" } : Jvm.MethodName)) ∈ lw_all := lw_g (lw_at lw_m4 218 rfl) rfl
theorem q1007 : (Jvm.Cond.code ({ cls := "LiarClocksModel", name := "roundIn", desc := "(I)V" } : Jvm.MethodName) prog_12_method_25_code (3 : Nat) (Option.none : Option Jvm.ClassFile.FieldType)) ∈ lw_all := lw_g (lw_at lw_m4 219 rfl) rfl
theorem q1009 : (Jvm.Cond.instanceMethod ({ cls := "LiarClocksModel", name := "lie", desc := "(III)I" } : Jvm.MethodName)) ∈ lw_all := lw_g (lw_at lw_m4 221 rfl) rfl
theorem q1010 : (Jvm.Cond.selects "LiarClocksModel" ({ cls := "LiarClocksModel", name := "lie", desc := "(III)I" } : Jvm.MethodName) ({ cls := "LiarClocksModel", name := "lie", desc := "(III)I" } : Jvm.MethodName)) ∈ lw_all := lw_g (lw_at lw_m4 222 rfl) rfl
theorem q1011 : (Jvm.Cond.code ({ cls := "LiarClocksModel", name := "lie", desc := "(III)I" } : Jvm.MethodName) prog_12_method_45_code (5 : Nat) (Option.some Jvm.ClassFile.FieldType.int)) ∈ lw_all := lw_g (lw_at lw_m4 223 rfl) rfl
theorem q1013 : (Jvm.Cond.instanceMethod ({ cls := "LiarClocksModel", name := "error", desc := "(III)I" } : Jvm.MethodName)) ∈ lw_all := lw_g (lw_at lw_m4 225 rfl) rfl
theorem q1014 : (Jvm.Cond.selects "LiarClocksModel" ({ cls := "LiarClocksModel", name := "error", desc := "(III)I" } : Jvm.MethodName) ({ cls := "LiarClocksModel", name := "error", desc := "(III)I" } : Jvm.MethodName)) ∈ lw_all := lw_g (lw_at lw_m4 226 rfl) rfl
theorem q1015 : (Jvm.Cond.code ({ cls := "LiarClocksModel", name := "error", desc := "(III)I" } : Jvm.MethodName) prog_12_method_46_code (5 : Nat) (Option.some Jvm.ClassFile.FieldType.int)) ∈ lw_all := lw_g (lw_at lw_m4 227 rfl) rfl
theorem q1017 : (Jvm.Cond.instanceMethod ({ cls := "LiarClocksModel", name := "liar", desc := "(IZ)I" } : Jvm.MethodName)) ∈ lw_all := lw_g (lw_at lw_m4 229 rfl) rfl
theorem q1018 : (Jvm.Cond.selects "LiarClocksModel" ({ cls := "LiarClocksModel", name := "liar", desc := "(IZ)I" } : Jvm.MethodName) ({ cls := "LiarClocksModel", name := "liar", desc := "(IZ)I" } : Jvm.MethodName)) ∈ lw_all := lw_g (lw_at lw_m4 230 rfl) rfl
theorem q1019 : (Jvm.Cond.code ({ cls := "LiarClocksModel", name := "liar", desc := "(IZ)I" } : Jvm.MethodName) prog_12_method_48_code (3 : Nat) (Option.some Jvm.ClassFile.FieldType.int)) ∈ lw_all := lw_g (lw_at lw_m4 231 rfl) rfl
theorem q1020 : (Jvm.Cond.methodLink "LiarClocksModel" (175 : Nat) ({ cls := "LiarClocksModel", name := "manyOf", desc := "(I)I" } : Jvm.MethodName)) ∈ lw_all := lw_g (lw_at lw_m4 232 rfl) rfl
theorem q1021 : (Jvm.Cond.privateMethod ({ cls := "LiarClocksModel", name := "manyOf", desc := "(I)I" } : Jvm.MethodName)) ∈ lw_tbl := lw_at lw_m4 233 rfl
theorem q1022 : (Jvm.Cond.instanceMethod ({ cls := "LiarClocksModel", name := "manyOf", desc := "(I)I" } : Jvm.MethodName)) ∈ lw_all := lw_g (lw_at lw_m4 234 rfl) rfl
theorem q1023 : (Jvm.Cond.code ({ cls := "LiarClocksModel", name := "manyOf", desc := "(I)I" } : Jvm.MethodName) prog_12_method_47_code (4 : Nat) (Option.some Jvm.ClassFile.FieldType.int)) ∈ lw_all := lw_g (lw_at lw_m4 235 rfl) rfl
theorem q1025 : (Jvm.Cond.instanceMethod ({ cls := "LiarClocksModel", name := "stand", desc := "(I)I" } : Jvm.MethodName)) ∈ lw_all := lw_g (lw_at lw_m4 237 rfl) rfl
theorem q1026 : (Jvm.Cond.selects "LiarClocksModel" ({ cls := "LiarClocksModel", name := "stand", desc := "(I)I" } : Jvm.MethodName) ({ cls := "LiarClocksModel", name := "stand", desc := "(I)I" } : Jvm.MethodName)) ∈ lw_all := lw_g (lw_at lw_m4 238 rfl) rfl
theorem q1027 : (Jvm.Cond.code ({ cls := "LiarClocksModel", name := "stand", desc := "(I)I" } : Jvm.MethodName) prog_12_method_49_code (2 : Nat) (Option.some Jvm.ClassFile.FieldType.int)) ∈ lw_all := lw_g (lw_at lw_m4 239 rfl) rfl
theorem q1028 : (Jvm.Cond.constant "LiarClocksModel" (178 : Nat) (-1000000003 : Int32)) ∈ lw_all := lw_g (lw_at lw_m5 0 rfl) rfl
theorem q1030 : (Jvm.Cond.instanceMethod ({ cls := "LiarClocksModel", name := "join", desc := "(I)I" } : Jvm.MethodName)) ∈ lw_all := lw_g (lw_at lw_m5 2 rfl) rfl
theorem q1031 : (Jvm.Cond.selects "LiarClocksModel" ({ cls := "LiarClocksModel", name := "join", desc := "(I)I" } : Jvm.MethodName) ({ cls := "LiarClocksModel", name := "join", desc := "(I)I" } : Jvm.MethodName)) ∈ lw_all := lw_g (lw_at lw_m5 3 rfl) rfl
theorem q1032 : (Jvm.Cond.code ({ cls := "LiarClocksModel", name := "join", desc := "(I)I" } : Jvm.MethodName) prog_12_method_50_code (5 : Nat) (Option.some Jvm.ClassFile.FieldType.int)) ∈ lw_all := lw_g (lw_at lw_m5 4 rfl) rfl
theorem q1034 : (Jvm.Cond.instanceMethod ({ cls := "LiarClocksModel", name := "alarm", desc := "(II)I" } : Jvm.MethodName)) ∈ lw_all := lw_g (lw_at lw_m5 6 rfl) rfl
theorem q1035 : (Jvm.Cond.selects "LiarClocksModel" ({ cls := "LiarClocksModel", name := "alarm", desc := "(II)I" } : Jvm.MethodName) ({ cls := "LiarClocksModel", name := "alarm", desc := "(II)I" } : Jvm.MethodName)) ∈ lw_all := lw_g (lw_at lw_m5 7 rfl) rfl
theorem q1036 : (Jvm.Cond.code ({ cls := "LiarClocksModel", name := "alarm", desc := "(II)I" } : Jvm.MethodName) prog_12_method_51_code (4 : Nat) (Option.some Jvm.ClassFile.FieldType.int)) ∈ lw_all := lw_g (lw_at lw_m5 8 rfl) rfl
theorem q1037 : (Jvm.Cond.constant "LiarClocksModel" (179 : Nat) (999999 : Int32)) ∈ lw_all := lw_g (lw_at lw_m5 9 rfl) rfl
theorem q1039 : (Jvm.Cond.instanceMethod ({ cls := "LiarClocksModel", name := "drift", desc := "(I)I" } : Jvm.MethodName)) ∈ lw_all := lw_g (lw_at lw_m5 11 rfl) rfl
theorem q1040 : (Jvm.Cond.selects "LiarClocksModel" ({ cls := "LiarClocksModel", name := "drift", desc := "(I)I" } : Jvm.MethodName) ({ cls := "LiarClocksModel", name := "drift", desc := "(I)I" } : Jvm.MethodName)) ∈ lw_all := lw_g (lw_at lw_m5 12 rfl) rfl
theorem q1041 : (Jvm.Cond.code ({ cls := "LiarClocksModel", name := "drift", desc := "(I)I" } : Jvm.MethodName) prog_12_method_54_code (3 : Nat) (Option.some Jvm.ClassFile.FieldType.int)) ∈ lw_all := lw_g (lw_at lw_m5 13 rfl) rfl
theorem q1042 : (Jvm.Cond.methodLink "LiarClocksModel" (190 : Nat) ({ cls := "LiarClocksModel", name := "time", desc := "()V" } : Jvm.MethodName)) ∈ lw_all := lw_g (lw_at lw_m5 14 rfl) rfl
theorem q1043 : (Jvm.Cond.privateMethod ({ cls := "LiarClocksModel", name := "time", desc := "()V" } : Jvm.MethodName)) ∈ lw_tbl := lw_at lw_m5 15 rfl
theorem q1044 : (Jvm.Cond.instanceMethod ({ cls := "LiarClocksModel", name := "time", desc := "()V" } : Jvm.MethodName)) ∈ lw_all := lw_g (lw_at lw_m5 16 rfl) rfl
theorem q1045 : (Jvm.Cond.code ({ cls := "LiarClocksModel", name := "time", desc := "()V" } : Jvm.MethodName) prog_12_method_53_code (6 : Nat) (Option.none : Option Jvm.ClassFile.FieldType)) ∈ lw_all := lw_g (lw_at lw_m5 17 rfl) rfl
theorem q1046 : (Jvm.Cond.methodLink "LiarClocksModel" (187 : Nat) ({ cls := "LiarClocksModel", name := "draw", desc := "(I)I" } : Jvm.MethodName)) ∈ lw_all := lw_g (lw_at lw_m5 18 rfl) rfl
theorem q1047 : (Jvm.Cond.privateMethod ({ cls := "LiarClocksModel", name := "draw", desc := "(I)I" } : Jvm.MethodName)) ∈ lw_tbl := lw_at lw_m5 19 rfl
theorem q1048 : (Jvm.Cond.instanceMethod ({ cls := "LiarClocksModel", name := "draw", desc := "(I)I" } : Jvm.MethodName)) ∈ lw_all := lw_g (lw_at lw_m5 20 rfl) rfl
theorem q1049 : (Jvm.Cond.code ({ cls := "LiarClocksModel", name := "draw", desc := "(I)I" } : Jvm.MethodName) prog_12_method_52_code (4 : Nat) (Option.some Jvm.ClassFile.FieldType.int)) ∈ lw_all := lw_g (lw_at lw_m5 21 rfl) rfl
theorem q1050 : (Jvm.Cond.constantLong "LiarClocksModel" (180 : Nat) (1103515245 : Int64)) ∈ lw_all := lw_g (lw_at lw_m5 22 rfl) rfl
theorem q1051 : (Jvm.Cond.constantLong "LiarClocksModel" (182 : Nat) (12345 : Int64)) ∈ lw_all := lw_g (lw_at lw_m5 23 rfl) rfl
theorem q1052 : (Jvm.Cond.constantLong "LiarClocksModel" (184 : Nat) (2147483648 : Int64)) ∈ lw_all := lw_g (lw_at lw_m5 24 rfl) rfl
theorem q1053 : (Jvm.Cond.constant "LiarClocksModel" (186 : Nat) (65536 : Int32)) ∈ lw_all := lw_g (lw_at lw_m5 25 rfl) rfl
theorem q1055 : (Jvm.Cond.instanceMethod ({ cls := "LiarClocksModel", name := "undo", desc := "(I)I" } : Jvm.MethodName)) ∈ lw_all := lw_g (lw_at lw_m5 27 rfl) rfl
theorem q1056 : (Jvm.Cond.selects "LiarClocksModel" ({ cls := "LiarClocksModel", name := "undo", desc := "(I)I" } : Jvm.MethodName) ({ cls := "LiarClocksModel", name := "undo", desc := "(I)I" } : Jvm.MethodName)) ∈ lw_all := lw_g (lw_at lw_m5 28 rfl) rfl
theorem q1057 : (Jvm.Cond.code ({ cls := "LiarClocksModel", name := "undo", desc := "(I)I" } : Jvm.MethodName) prog_12_method_55_code (3 : Nat) (Option.some Jvm.ClassFile.FieldType.int)) ∈ lw_all := lw_g (lw_at lw_m5 29 rfl) rfl
theorem q1059 : (Jvm.Cond.instanceMethod ({ cls := "LiarClocksModel", name := "behind", desc := "(I)I" } : Jvm.MethodName)) ∈ lw_all := lw_g (lw_at lw_m5 31 rfl) rfl
theorem q1060 : (Jvm.Cond.selects "LiarClocksModel" ({ cls := "LiarClocksModel", name := "behind", desc := "(I)I" } : Jvm.MethodName) ({ cls := "LiarClocksModel", name := "behind", desc := "(I)I" } : Jvm.MethodName)) ∈ lw_all := lw_g (lw_at lw_m5 32 rfl) rfl
theorem q1061 : (Jvm.Cond.code ({ cls := "LiarClocksModel", name := "behind", desc := "(I)I" } : Jvm.MethodName) prog_12_method_56_code (3 : Nat) (Option.some Jvm.ClassFile.FieldType.int)) ∈ lw_all := lw_g (lw_at lw_m5 33 rfl) rfl
theorem q1063 : (Jvm.Cond.instanceMethod ({ cls := "LiarClocksModel", name := "within", desc := "(I)I" } : Jvm.MethodName)) ∈ lw_all := lw_g (lw_at lw_m5 35 rfl) rfl
theorem q1064 : (Jvm.Cond.selects "LiarClocksModel" ({ cls := "LiarClocksModel", name := "within", desc := "(I)I" } : Jvm.MethodName) ({ cls := "LiarClocksModel", name := "within", desc := "(I)I" } : Jvm.MethodName)) ∈ lw_all := lw_g (lw_at lw_m5 36 rfl) rfl
theorem q1065 : (Jvm.Cond.code ({ cls := "LiarClocksModel", name := "within", desc := "(I)I" } : Jvm.MethodName) prog_12_method_57_code (4 : Nat) (Option.some Jvm.ClassFile.FieldType.int)) ∈ lw_all := lw_g (lw_at lw_m5 37 rfl) rfl
theorem q1066 : (Jvm.Cond.methodLink "LiarClocksModel" (193 : Nat) ({ cls := "LiarClocksModel", name := "behind", desc := "(I)I" } : Jvm.MethodName)) ∈ lw_all := lw_g (lw_at lw_m5 38 rfl) rfl
theorem q1068 : (Jvm.Cond.instanceMethod ({ cls := "LiarClocksModel", name := "write", desc := "(II)I" } : Jvm.MethodName)) ∈ lw_all := lw_g (lw_at lw_m5 40 rfl) rfl
theorem q1069 : (Jvm.Cond.selects "LiarClocksModel" ({ cls := "LiarClocksModel", name := "write", desc := "(II)I" } : Jvm.MethodName) ({ cls := "LiarClocksModel", name := "write", desc := "(II)I" } : Jvm.MethodName)) ∈ lw_all := lw_g (lw_at lw_m5 41 rfl) rfl
theorem q1070 : (Jvm.Cond.code ({ cls := "LiarClocksModel", name := "write", desc := "(II)I" } : Jvm.MethodName) prog_12_method_58_code (3 : Nat) (Option.some Jvm.ClassFile.FieldType.int)) ∈ lw_all := lw_g (lw_at lw_m5 42 rfl) rfl
theorem q1072 : (Jvm.Cond.instanceMethod ({ cls := "LiarClocksModel", name := "tear", desc := "()I" } : Jvm.MethodName)) ∈ lw_all := lw_g (lw_at lw_m5 44 rfl) rfl
theorem q1073 : (Jvm.Cond.selects "LiarClocksModel" ({ cls := "LiarClocksModel", name := "tear", desc := "()I" } : Jvm.MethodName) ({ cls := "LiarClocksModel", name := "tear", desc := "()I" } : Jvm.MethodName)) ∈ lw_all := lw_g (lw_at lw_m5 45 rfl) rfl
theorem q1074 : (Jvm.Cond.code ({ cls := "LiarClocksModel", name := "tear", desc := "()I" } : Jvm.MethodName) prog_12_method_59_code (2 : Nat) (Option.some Jvm.ClassFile.FieldType.int)) ∈ lw_all := lw_g (lw_at lw_m5 46 rfl) rfl
theorem q1076 : (Jvm.Cond.instanceMethod ({ cls := "LiarClocksModel", name := "seed", desc := "(I)I" } : Jvm.MethodName)) ∈ lw_all := lw_g (lw_at lw_m5 48 rfl) rfl
theorem q1077 : (Jvm.Cond.selects "LiarClocksModel" ({ cls := "LiarClocksModel", name := "seed", desc := "(I)I" } : Jvm.MethodName) ({ cls := "LiarClocksModel", name := "seed", desc := "(I)I" } : Jvm.MethodName)) ∈ lw_all := lw_g (lw_at lw_m5 49 rfl) rfl
theorem q1078 : (Jvm.Cond.code ({ cls := "LiarClocksModel", name := "seed", desc := "(I)I" } : Jvm.MethodName) prog_12_method_60_code (3 : Nat) (Option.some Jvm.ClassFile.FieldType.int)) ∈ lw_all := lw_g (lw_at lw_m5 50 rfl) rfl
theorem q1080 : (Jvm.Cond.instanceMethod ({ cls := "LiarClocksModel", name := "keep", desc := "(I)I" } : Jvm.MethodName)) ∈ lw_all := lw_g (lw_at lw_m5 52 rfl) rfl
theorem q1081 : (Jvm.Cond.selects "LiarClocksModel" ({ cls := "LiarClocksModel", name := "keep", desc := "(I)I" } : Jvm.MethodName) ({ cls := "LiarClocksModel", name := "keep", desc := "(I)I" } : Jvm.MethodName)) ∈ lw_all := lw_g (lw_at lw_m5 53 rfl) rfl
theorem q1082 : (Jvm.Cond.code ({ cls := "LiarClocksModel", name := "keep", desc := "(I)I" } : Jvm.MethodName) prog_12_method_61_code (2 : Nat) (Option.some Jvm.ClassFile.FieldType.int)) ∈ lw_all := lw_g (lw_at lw_m5 54 rfl) rfl
theorem q1084 : (Jvm.Cond.instanceMethod ({ cls := "LiarClocksModel", name := "goBack", desc := "(I)I" } : Jvm.MethodName)) ∈ lw_all := lw_g (lw_at lw_m5 56 rfl) rfl
theorem q1085 : (Jvm.Cond.selects "LiarClocksModel" ({ cls := "LiarClocksModel", name := "goBack", desc := "(I)I" } : Jvm.MethodName) ({ cls := "LiarClocksModel", name := "goBack", desc := "(I)I" } : Jvm.MethodName)) ∈ lw_all := lw_g (lw_at lw_m5 57 rfl) rfl
theorem q1086 : (Jvm.Cond.code ({ cls := "LiarClocksModel", name := "goBack", desc := "(I)I" } : Jvm.MethodName) prog_12_method_62_code (2 : Nat) (Option.some Jvm.ClassFile.FieldType.int)) ∈ lw_all := lw_g (lw_at lw_m5 58 rfl) rfl
theorem q1087 : (Jvm.Cond.methodLink "LiarClocksModel" (196 : Nat) ({ cls := "LiarClocksModel", name := "has", desc := "(II)Z" } : Jvm.MethodName)) ∈ lw_all := lw_g (lw_at lw_m5 59 rfl) rfl
theorem q1088 : (Jvm.Cond.static ({ cls := "LiarClocksModel", name := "has", desc := "(II)Z" } : Jvm.MethodName)) ∈ lw_all := lw_g (lw_at lw_m5 60 rfl) rfl
theorem q1089 : (Jvm.Cond.code ({ cls := "LiarClocksModel", name := "has", desc := "(II)Z" } : Jvm.MethodName) prog_12_method_4_code (2 : Nat) (Option.some Jvm.ClassFile.FieldType.boolean)) ∈ lw_all := lw_g (lw_at lw_m5 61 rfl) rfl
theorem in_X2 : ∀ w ∈ wsX20, w ∈ lw_all := lw_in wsX20 [803, 805, 807, 809, 811, 813, 815, 817, 819, 821, 823, 825, 827, 829, 831, 833, 835] (by decide +kernel) (by decide +kernel)
