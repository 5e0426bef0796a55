/-! BreakSetter -/
set_option maxRecDepth 100000
def RX1 : String := "BreakSetter"
def TX1 : u_T := fun k => match k with
  | 0 => ("BreakSetter", "tape", "[B", true)
  | 1 => ("BreakSetter", "length", "I", false)
  | 2 => ("BreakSetter", "size", "I", false)
  | 3 => ("BreakSetter", "plan", "LBreakSetter$Plan;", false)
  | 4 => ("BreakSetter", "at", "[I", false)
  | 5 => ("BreakSetter", "cover", "[I", true)
  | 6 => ("BreakSetter", "shortfall", "I", false)
  | 7 => ("BreakSetter", "taker", "[I", true)
  | 8 => ("BreakSetter", "isSeen", "[Z", true)
  | 9 => ("BreakSetter", "helps", "[I", true)
  | 10 => ("BreakSetter", "backs", "[[I", true)
  | 11 => ("BreakSetter", "undoMany", "I", false)
  | _ => ("BreakSetter", "fault", "I", false)
def tyX1 : Nat → FieldType := fun k => match k with
  | 0 => .array .byte
  | 1 => .int
  | 2 => .int
  | 3 => .object "BreakSetter$Plan"
  | 4 => .array .int
  | 5 => .array .int
  | 6 => .int
  | 7 => .array .int
  | 8 => .array .boolean
  | 9 => .array .int
  | 10 => .array (.array .int)
  | 11 => .int
  | _ => .int
abbrev wsX10 : List Cond := u_ws RX1 TX1 13
set_option maxRecDepth 100000 in
theorem nmX1 : ∀ a, a < 13 → ∀ b, b < 13 → a ≠ b → (TX1 a).2.1 ≠ (TX1 b).2.1 := by decide +kernel
set_option maxRecDepth 100000 in
theorem tyX1_ok : ∀ k, k < 13 → parseFieldDescriptor (TX1 k).2.2.1 = some (tyX1 k) := by decide +kernel
abbrev cX1_init : ByteArray := prog_1_method_1_code
def yX1_init : MethodName := ⟨RX1, "<init>", "()V"⟩
def dkwX1_init_3 : List UInt8 := [189, 0, 41, 181, 0, 42, 177]
abbrev dktX1_init_3 : List UInt8 := dkwX1_init_3 ++ []
def dkwX1_init_2 : List UInt8 := [181, 0, 31, 42, 17, 1, 128, 188, 4, 181, 0, 34, 42, 17, 0, 147, 188, 10, 181, 0, 38, 42, 16, 10]
abbrev dktX1_init_2 : List UInt8 := dkwX1_init_2 ++ dktX1_init_3
def dkwX1_init_1 : List UInt8 := [42, 184, 0, 20, 181, 0, 24, 42, 17, 0, 144, 188, 10, 181, 0, 28, 42, 17, 1, 128, 188, 10]
abbrev dktX1_init_1 : List UInt8 := dkwX1_init_1 ++ dktX1_init_2
def dkwX1_init_0 : List UInt8 := [42, 183, 0, 3, 42, 17, 2, 128, 188, 8, 181, 0, 9, 42, 187, 0, 13, 89, 183, 0, 15, 181, 0, 16]
abbrev dktX1_init_0 : List UInt8 := dkwX1_init_0 ++ dktX1_init_1
theorem dksX1_init_0 : cX1_init.data.toList.drop 0 = dktX1_init_0 := by decide +kernel
theorem dksX1_init_1 : cX1_init.data.toList.drop 24 = dktX1_init_1 := dk_seg dksX1_init_0 24 rfl rfl
theorem dksX1_init_2 : cX1_init.data.toList.drop 46 = dktX1_init_2 := dk_seg dksX1_init_1 22 rfl rfl
theorem dksX1_init_3 : cX1_init.data.toList.drop 70 = dktX1_init_3 := dk_seg dksX1_init_2 24 rfl rfl
theorem dX1_init_0 : decode cX1_init 0 = .ok (.aload_n 0, 1) := dk_42 (dk_at dksX1_init_0 0 rfl rfl)
theorem dX1_init_1 : decode cX1_init 1 = .ok (.invokespecial 3, 3) := dk_183 0 3 (dk_at dksX1_init_0 1 rfl rfl)
theorem dX1_init_4 : decode cX1_init 4 = .ok (.aload_n 0, 1) := dk_42 (dk_at dksX1_init_0 4 rfl rfl)
theorem dX1_init_5 : decode cX1_init 5 = .ok (.sipush 640, 3) := dk_17 2 128 (dk_at dksX1_init_0 5 rfl rfl)
theorem dX1_init_8 : decode cX1_init 8 = .ok (.newarray .byte, 2) := dk_188_8 (dk_at dksX1_init_0 8 rfl rfl)
theorem dX1_init_10 : decode cX1_init 10 = .ok (.putfield 9, 3) := dk_181 0 9 (dk_at dksX1_init_0 10 rfl rfl)
theorem dX1_init_13 : decode cX1_init 13 = .ok (.aload_n 0, 1) := dk_42 (dk_at dksX1_init_0 13 rfl rfl)
theorem dX1_init_14 : decode cX1_init 14 = .ok (.new 13, 3) := dk_187 0 13 (dk_at dksX1_init_0 14 rfl rfl)
theorem dX1_init_17 : decode cX1_init 17 = .ok (.dup, 1) := dk_89 (dk_at dksX1_init_0 17 rfl rfl)
theorem dX1_init_18 : decode cX1_init 18 = .ok (.invokespecial 15, 3) := dk_183 0 15 (dk_at dksX1_init_0 18 rfl rfl)
theorem dX1_init_21 : decode cX1_init 21 = .ok (.putfield 16, 3) := dk_181 0 16 (dk_at dksX1_init_0 21 rfl rfl)
theorem dX1_init_24 : decode cX1_init 24 = .ok (.aload_n 0, 1) := dk_42 (dk_at dksX1_init_1 0 rfl rfl)
theorem dX1_init_25 : decode cX1_init 25 = .ok (.invokestatic 20, 3) := dk_184 0 20 (dk_at dksX1_init_1 1 rfl rfl)
theorem dX1_init_28 : decode cX1_init 28 = .ok (.putfield 24, 3) := dk_181 0 24 (dk_at dksX1_init_1 4 rfl rfl)
theorem dX1_init_31 : decode cX1_init 31 = .ok (.aload_n 0, 1) := dk_42 (dk_at dksX1_init_1 7 rfl rfl)
theorem dX1_init_32 : decode cX1_init 32 = .ok (.sipush 144, 3) := dk_17 0 144 (dk_at dksX1_init_1 8 rfl rfl)
theorem dX1_init_35 : decode cX1_init 35 = .ok (.newarray .int, 2) := dk_188_10 (dk_at dksX1_init_1 11 rfl rfl)
theorem dX1_init_37 : decode cX1_init 37 = .ok (.putfield 28, 3) := dk_181 0 28 (dk_at dksX1_init_1 13 rfl rfl)
theorem dX1_init_40 : decode cX1_init 40 = .ok (.aload_n 0, 1) := dk_42 (dk_at dksX1_init_1 16 rfl rfl)
theorem dX1_init_41 : decode cX1_init 41 = .ok (.sipush 384, 3) := dk_17 1 128 (dk_at dksX1_init_1 17 rfl rfl)
theorem dX1_init_44 : decode cX1_init 44 = .ok (.newarray .int, 2) := dk_188_10 (dk_at dksX1_init_1 20 rfl rfl)
theorem dX1_init_46 : decode cX1_init 46 = .ok (.putfield 31, 3) := dk_181 0 31 (dk_at dksX1_init_2 0 rfl rfl)
theorem dX1_init_49 : decode cX1_init 49 = .ok (.aload_n 0, 1) := dk_42 (dk_at dksX1_init_2 3 rfl rfl)
theorem dX1_init_50 : decode cX1_init 50 = .ok (.sipush 384, 3) := dk_17 1 128 (dk_at dksX1_init_2 4 rfl rfl)
theorem dX1_init_53 : decode cX1_init 53 = .ok (.newarray .boolean, 2) := dk_188_4 (dk_at dksX1_init_2 7 rfl rfl)
theorem dX1_init_55 : decode cX1_init 55 = .ok (.putfield 34, 3) := dk_181 0 34 (dk_at dksX1_init_2 9 rfl rfl)
theorem dX1_init_58 : decode cX1_init 58 = .ok (.aload_n 0, 1) := dk_42 (dk_at dksX1_init_2 12 rfl rfl)
theorem dX1_init_59 : decode cX1_init 59 = .ok (.sipush 147, 3) := dk_17 0 147 (dk_at dksX1_init_2 13 rfl rfl)
theorem dX1_init_62 : decode cX1_init 62 = .ok (.newarray .int, 2) := dk_188_10 (dk_at dksX1_init_2 16 rfl rfl)
theorem dX1_init_64 : decode cX1_init 64 = .ok (.putfield 38, 3) := dk_181 0 38 (dk_at dksX1_init_2 18 rfl rfl)
theorem dX1_init_67 : decode cX1_init 67 = .ok (.aload_n 0, 1) := dk_42 (dk_at dksX1_init_2 21 rfl rfl)
theorem dX1_init_68 : decode cX1_init 68 = .ok (.bipush 10, 2) := dk_16 10 (dk_at dksX1_init_2 22 rfl rfl)
theorem dX1_init_70 : decode cX1_init 70 = .ok (.anewarray 41, 3) := dk_189 0 41 (dk_at dksX1_init_3 0 rfl rfl)
theorem dX1_init_73 : decode cX1_init 73 = .ok (.putfield 42, 3) := dk_181 0 42 (dk_at dksX1_init_3 3 rfl rfl)
theorem dX1_init_76 : decode cX1_init 76 = .ok (.return_, 1) := dk_177 (dk_at dksX1_init_3 6 rfl rfl)
abbrev cX1_nowhere : ByteArray := prog_1_method_6_code
def yX1_nowhere : MethodName := ⟨RX1, "nowhere", "()[I"⟩
def dkwX1_nowhere_0 : List UInt8 := [16, 24, 188, 10, 75, 42, 2, 184, 0, 54, 42, 176]
abbrev dktX1_nowhere_0 : List UInt8 := dkwX1_nowhere_0 ++ []
theorem dksX1_nowhere_0 : cX1_nowhere.data.toList.drop 0 = dktX1_nowhere_0 := by decide +kernel
theorem dX1_nowhere_0 : decode cX1_nowhere 0 = .ok (.bipush 24, 2) := dk_16 24 (dk_at dksX1_nowhere_0 0 rfl rfl)
theorem dX1_nowhere_2 : decode cX1_nowhere 2 = .ok (.newarray .int, 2) := dk_188_10 (dk_at dksX1_nowhere_0 2 rfl rfl)
theorem dX1_nowhere_4 : decode cX1_nowhere 4 = .ok (.astore_n 0, 1) := dk_75 (dk_at dksX1_nowhere_0 4 rfl rfl)
theorem dX1_nowhere_5 : decode cX1_nowhere 5 = .ok (.aload_n 0, 1) := dk_42 (dk_at dksX1_nowhere_0 5 rfl rfl)
theorem dX1_nowhere_6 : decode cX1_nowhere 6 = .ok (.iconst (-1), 1) := dk_2 (dk_at dksX1_nowhere_0 6 rfl rfl)
theorem dX1_nowhere_7 : decode cX1_nowhere 7 = .ok (.invokestatic 54, 3) := dk_184 0 54 (dk_at dksX1_nowhere_0 7 rfl rfl)
theorem dX1_nowhere_10 : decode cX1_nowhere 10 = .ok (.aload_n 0, 1) := dk_42 (dk_at dksX1_nowhere_0 10 rfl rfl)
theorem dX1_nowhere_11 : decode cX1_nowhere 11 = .ok (.areturn, 1) := dk_176 (dk_at dksX1_nowhere_0 11 rfl rfl)
abbrev cX1_feed : ByteArray := prog_1_method_2_code
def yX1_feed : MethodName := ⟨RX1, "feed", "(IIIII)I"⟩
def dkwX1_feed_1 : List UInt8 := [79, 89, 4, 28, 79, 89, 5, 29, 79, 89, 6, 21, 4, 79, 89, 7, 21, 5, 79, 182, 0, 50, 172]
abbrev dktX1_feed_1 : List UInt8 := dkwX1_feed_1 ++ []
def dkwX1_feed_0 : List UInt8 := [42, 180, 0, 46, 16, 20, 96, 17, 2, 128, 164, 0, 7, 2, 167, 0, 32, 42, 8, 188, 10, 89, 3, 27]
abbrev dktX1_feed_0 : List UInt8 := dkwX1_feed_0 ++ dktX1_feed_1
theorem dksX1_feed_0 : cX1_feed.data.toList.drop 0 = dktX1_feed_0 := by decide +kernel
theorem dksX1_feed_1 : cX1_feed.data.toList.drop 24 = dktX1_feed_1 := dk_seg dksX1_feed_0 24 rfl rfl
theorem dX1_feed_0 : decode cX1_feed 0 = .ok (.aload_n 0, 1) := dk_42 (dk_at dksX1_feed_0 0 rfl rfl)
theorem dX1_feed_1 : decode cX1_feed 1 = .ok (.getfield 46, 3) := dk_180 0 46 (dk_at dksX1_feed_0 1 rfl rfl)
theorem dX1_feed_4 : decode cX1_feed 4 = .ok (.bipush 20, 2) := dk_16 20 (dk_at dksX1_feed_0 4 rfl rfl)
theorem dX1_feed_6 : decode cX1_feed 6 = .ok (.iadd, 1) := dk_96 (dk_at dksX1_feed_0 6 rfl rfl)
theorem dX1_feed_7 : decode cX1_feed 7 = .ok (.sipush 640, 3) := dk_17 2 128 (dk_at dksX1_feed_0 7 rfl rfl)
theorem dX1_feed_10 : decode cX1_feed 10 = .ok (.if_icmp .le 7, 3) := dk_164 0 7 (dk_at dksX1_feed_0 10 rfl rfl)
theorem dX1_feed_13 : decode cX1_feed 13 = .ok (.iconst (-1), 1) := dk_2 (dk_at dksX1_feed_0 13 rfl rfl)
theorem dX1_feed_14 : decode cX1_feed 14 = .ok (.goto 32, 3) := dk_167 0 32 (dk_at dksX1_feed_0 14 rfl rfl)
theorem dX1_feed_17 : decode cX1_feed 17 = .ok (.aload_n 0, 1) := dk_42 (dk_at dksX1_feed_0 17 rfl rfl)
theorem dX1_feed_18 : decode cX1_feed 18 = .ok (.iconst 5, 1) := dk_8 (dk_at dksX1_feed_0 18 rfl rfl)
theorem dX1_feed_19 : decode cX1_feed 19 = .ok (.newarray .int, 2) := dk_188_10 (dk_at dksX1_feed_0 19 rfl rfl)
theorem dX1_feed_21 : decode cX1_feed 21 = .ok (.dup, 1) := dk_89 (dk_at dksX1_feed_0 21 rfl rfl)
theorem dX1_feed_22 : decode cX1_feed 22 = .ok (.iconst 0, 1) := dk_3 (dk_at dksX1_feed_0 22 rfl rfl)
theorem dX1_feed_23 : decode cX1_feed 23 = .ok (.iload_n 1, 1) := dk_27 (dk_at dksX1_feed_0 23 rfl rfl)
theorem dX1_feed_24 : decode cX1_feed 24 = .ok (.iastore, 1) := dk_79 (dk_at dksX1_feed_1 0 rfl rfl)
theorem dX1_feed_25 : decode cX1_feed 25 = .ok (.dup, 1) := dk_89 (dk_at dksX1_feed_1 1 rfl rfl)
theorem dX1_feed_26 : decode cX1_feed 26 = .ok (.iconst 1, 1) := dk_4 (dk_at dksX1_feed_1 2 rfl rfl)
theorem dX1_feed_27 : decode cX1_feed 27 = .ok (.iload_n 2, 1) := dk_28 (dk_at dksX1_feed_1 3 rfl rfl)
theorem dX1_feed_28 : decode cX1_feed 28 = .ok (.iastore, 1) := dk_79 (dk_at dksX1_feed_1 4 rfl rfl)
theorem dX1_feed_29 : decode cX1_feed 29 = .ok (.dup, 1) := dk_89 (dk_at dksX1_feed_1 5 rfl rfl)
theorem dX1_feed_30 : decode cX1_feed 30 = .ok (.iconst 2, 1) := dk_5 (dk_at dksX1_feed_1 6 rfl rfl)
theorem dX1_feed_31 : decode cX1_feed 31 = .ok (.iload_n 3, 1) := dk_29 (dk_at dksX1_feed_1 7 rfl rfl)
theorem dX1_feed_32 : decode cX1_feed 32 = .ok (.iastore, 1) := dk_79 (dk_at dksX1_feed_1 8 rfl rfl)
theorem dX1_feed_33 : decode cX1_feed 33 = .ok (.dup, 1) := dk_89 (dk_at dksX1_feed_1 9 rfl rfl)
theorem dX1_feed_34 : decode cX1_feed 34 = .ok (.iconst 3, 1) := dk_6 (dk_at dksX1_feed_1 10 rfl rfl)
theorem dX1_feed_35 : decode cX1_feed 35 = .ok (.iload 4, 2) := dk_21 4 (dk_at dksX1_feed_1 11 rfl rfl)
theorem dX1_feed_37 : decode cX1_feed 37 = .ok (.iastore, 1) := dk_79 (dk_at dksX1_feed_1 13 rfl rfl)
theorem dX1_feed_38 : decode cX1_feed 38 = .ok (.dup, 1) := dk_89 (dk_at dksX1_feed_1 14 rfl rfl)
theorem dX1_feed_39 : decode cX1_feed 39 = .ok (.iconst 4, 1) := dk_7 (dk_at dksX1_feed_1 15 rfl rfl)
theorem dX1_feed_40 : decode cX1_feed 40 = .ok (.iload 5, 2) := dk_21 5 (dk_at dksX1_feed_1 16 rfl rfl)
theorem dX1_feed_42 : decode cX1_feed 42 = .ok (.iastore, 1) := dk_79 (dk_at dksX1_feed_1 18 rfl rfl)
theorem dX1_feed_43 : decode cX1_feed 43 = .ok (.invokevirtual 50, 3) := dk_182 0 50 (dk_at dksX1_feed_1 19 rfl rfl)
theorem dX1_feed_46 : decode cX1_feed 46 = .ok (.ireturn, 1) := dk_172 (dk_at dksX1_feed_1 22 rfl rfl)
abbrev cX1_puts : ByteArray := prog_1_method_3_code
def yX1_puts : MethodName := ⟨RX1, "puts", "([I)I"⟩
def dkwX1_puts_3 : List UInt8 := [172]
abbrev dktX1_puts_3 : List UInt8 := dkwX1_puts_3 ++ []
def dkwX1_puts_2 : List UInt8 := [180, 0, 46, 4, 96, 181, 0, 46, 132, 6, 248, 167, 255, 223, 132, 4, 1, 167, 255, 201, 42, 180, 0, 46]
abbrev dktX1_puts_2 : List UInt8 := dkwX1_puts_2 ++ dktX1_puts_3
def dkwX1_puts_1 : List UInt8 := [21, 6, 155, 0, 34, 42, 180, 0, 9, 42, 180, 0, 46, 21, 5, 21, 6, 122, 145, 84, 42, 89]
abbrev dktX1_puts_1 : List UInt8 := dkwX1_puts_1 ++ dktX1_puts_2
def dkwX1_puts_0 : List UInt8 := [43, 77, 44, 190, 62, 3, 54, 4, 21, 4, 29, 162, 0, 55, 44, 21, 4, 46, 54, 5, 16, 24, 54, 6]
abbrev dktX1_puts_0 : List UInt8 := dkwX1_puts_0 ++ dktX1_puts_1
theorem dksX1_puts_0 : cX1_puts.data.toList.drop 0 = dktX1_puts_0 := by decide +kernel
theorem dksX1_puts_1 : cX1_puts.data.toList.drop 24 = dktX1_puts_1 := dk_seg dksX1_puts_0 24 rfl rfl
theorem dksX1_puts_2 : cX1_puts.data.toList.drop 46 = dktX1_puts_2 := dk_seg dksX1_puts_1 22 rfl rfl
theorem dksX1_puts_3 : cX1_puts.data.toList.drop 70 = dktX1_puts_3 := dk_seg dksX1_puts_2 24 rfl rfl
theorem dX1_puts_0 : decode cX1_puts 0 = .ok (.aload_n 1, 1) := dk_43 (dk_at dksX1_puts_0 0 rfl rfl)
theorem dX1_puts_1 : decode cX1_puts 1 = .ok (.astore_n 2, 1) := dk_77 (dk_at dksX1_puts_0 1 rfl rfl)
theorem dX1_puts_2 : decode cX1_puts 2 = .ok (.aload_n 2, 1) := dk_44 (dk_at dksX1_puts_0 2 rfl rfl)
theorem dX1_puts_3 : decode cX1_puts 3 = .ok (.arraylength, 1) := dk_190 (dk_at dksX1_puts_0 3 rfl rfl)
theorem dX1_puts_4 : decode cX1_puts 4 = .ok (.istore_n 3, 1) := dk_62 (dk_at dksX1_puts_0 4 rfl rfl)
theorem dX1_puts_5 : decode cX1_puts 5 = .ok (.iconst 0, 1) := dk_3 (dk_at dksX1_puts_0 5 rfl rfl)
theorem dX1_puts_6 : decode cX1_puts 6 = .ok (.istore 4, 2) := dk_54 4 (dk_at dksX1_puts_0 6 rfl rfl)
theorem dX1_puts_8 : decode cX1_puts 8 = .ok (.iload 4, 2) := dk_21 4 (dk_at dksX1_puts_0 8 rfl rfl)
theorem dX1_puts_10 : decode cX1_puts 10 = .ok (.iload_n 3, 1) := dk_29 (dk_at dksX1_puts_0 10 rfl rfl)
theorem dX1_puts_11 : decode cX1_puts 11 = .ok (.if_icmp .ge 55, 3) := dk_162 0 55 (dk_at dksX1_puts_0 11 rfl rfl)
theorem dX1_puts_14 : decode cX1_puts 14 = .ok (.aload_n 2, 1) := dk_44 (dk_at dksX1_puts_0 14 rfl rfl)
theorem dX1_puts_15 : decode cX1_puts 15 = .ok (.iload 4, 2) := dk_21 4 (dk_at dksX1_puts_0 15 rfl rfl)
theorem dX1_puts_17 : decode cX1_puts 17 = .ok (.iaload, 1) := dk_46 (dk_at dksX1_puts_0 17 rfl rfl)
theorem dX1_puts_18 : decode cX1_puts 18 = .ok (.istore 5, 2) := dk_54 5 (dk_at dksX1_puts_0 18 rfl rfl)
theorem dX1_puts_20 : decode cX1_puts 20 = .ok (.bipush 24, 2) := dk_16 24 (dk_at dksX1_puts_0 20 rfl rfl)
theorem dX1_puts_22 : decode cX1_puts 22 = .ok (.istore 6, 2) := dk_54 6 (dk_at dksX1_puts_0 22 rfl rfl)
theorem dX1_puts_24 : decode cX1_puts 24 = .ok (.iload 6, 2) := dk_21 6 (dk_at dksX1_puts_1 0 rfl rfl)
theorem dX1_puts_26 : decode cX1_puts 26 = .ok (.ifCond .lt 34, 3) := dk_155 0 34 (dk_at dksX1_puts_1 2 rfl rfl)
theorem dX1_puts_29 : decode cX1_puts 29 = .ok (.aload_n 0, 1) := dk_42 (dk_at dksX1_puts_1 5 rfl rfl)
theorem dX1_puts_30 : decode cX1_puts 30 = .ok (.getfield 9, 3) := dk_180 0 9 (dk_at dksX1_puts_1 6 rfl rfl)
theorem dX1_puts_33 : decode cX1_puts 33 = .ok (.aload_n 0, 1) := dk_42 (dk_at dksX1_puts_1 9 rfl rfl)
theorem dX1_puts_34 : decode cX1_puts 34 = .ok (.getfield 46, 3) := dk_180 0 46 (dk_at dksX1_puts_1 10 rfl rfl)
theorem dX1_puts_37 : decode cX1_puts 37 = .ok (.iload 5, 2) := dk_21 5 (dk_at dksX1_puts_1 13 rfl rfl)
theorem dX1_puts_39 : decode cX1_puts 39 = .ok (.iload 6, 2) := dk_21 6 (dk_at dksX1_puts_1 15 rfl rfl)
theorem dX1_puts_41 : decode cX1_puts 41 = .ok (.ishr, 1) := dk_122 (dk_at dksX1_puts_1 17 rfl rfl)
theorem dX1_puts_42 : decode cX1_puts 42 = .ok (.i2b, 1) := dk_145 (dk_at dksX1_puts_1 18 rfl rfl)
theorem dX1_puts_43 : decode cX1_puts 43 = .ok (.bastore, 1) := dk_84 (dk_at dksX1_puts_1 19 rfl rfl)
theorem dX1_puts_44 : decode cX1_puts 44 = .ok (.aload_n 0, 1) := dk_42 (dk_at dksX1_puts_1 20 rfl rfl)
theorem dX1_puts_45 : decode cX1_puts 45 = .ok (.dup, 1) := dk_89 (dk_at dksX1_puts_1 21 rfl rfl)
theorem dX1_puts_46 : decode cX1_puts 46 = .ok (.getfield 46, 3) := dk_180 0 46 (dk_at dksX1_puts_2 0 rfl rfl)
theorem dX1_puts_49 : decode cX1_puts 49 = .ok (.iconst 1, 1) := dk_4 (dk_at dksX1_puts_2 3 rfl rfl)
theorem dX1_puts_50 : decode cX1_puts 50 = .ok (.iadd, 1) := dk_96 (dk_at dksX1_puts_2 4 rfl rfl)
theorem dX1_puts_51 : decode cX1_puts 51 = .ok (.putfield 46, 3) := dk_181 0 46 (dk_at dksX1_puts_2 5 rfl rfl)
theorem dX1_puts_54 : decode cX1_puts 54 = .ok (.iinc 6 (-8), 3) := dk_132 6 248 (dk_at dksX1_puts_2 8 rfl rfl)
theorem dX1_puts_57 : decode cX1_puts 57 = .ok (.goto (-33), 3) := dk_167 255 223 (dk_at dksX1_puts_2 11 rfl rfl)
theorem dX1_puts_60 : decode cX1_puts 60 = .ok (.iinc 4 1, 3) := dk_132 4 1 (dk_at dksX1_puts_2 14 rfl rfl)
theorem dX1_puts_63 : decode cX1_puts 63 = .ok (.goto (-55), 3) := dk_167 255 201 (dk_at dksX1_puts_2 17 rfl rfl)
theorem dX1_puts_66 : decode cX1_puts 66 = .ok (.aload_n 0, 1) := dk_42 (dk_at dksX1_puts_2 20 rfl rfl)
theorem dX1_puts_67 : decode cX1_puts 67 = .ok (.getfield 46, 3) := dk_180 0 46 (dk_at dksX1_puts_2 21 rfl rfl)
theorem dX1_puts_70 : decode cX1_puts 70 = .ok (.ireturn, 1) := dk_172 (dk_at dksX1_puts_3 0 rfl rfl)
abbrev cX1_end : ByteArray := prog_1_method_4_code
def yX1_end : MethodName := ⟨RX1, "end", "(I)Z"⟩
def dkwX1_end_0 : List UInt8 := [27, 155, 0, 11, 27, 42, 180, 0, 46, 164, 0, 5, 3, 172, 42, 27, 181, 0, 46, 4, 172]
abbrev dktX1_end_0 : List UInt8 := dkwX1_end_0 ++ []
theorem dksX1_end_0 : cX1_end.data.toList.drop 0 = dktX1_end_0 := by decide +kernel
theorem dX1_end_0 : decode cX1_end 0 = .ok (.iload_n 1, 1) := dk_27 (dk_at dksX1_end_0 0 rfl rfl)
theorem dX1_end_1 : decode cX1_end 1 = .ok (.ifCond .lt 11, 3) := dk_155 0 11 (dk_at dksX1_end_0 1 rfl rfl)
theorem dX1_end_4 : decode cX1_end 4 = .ok (.iload_n 1, 1) := dk_27 (dk_at dksX1_end_0 4 rfl rfl)
theorem dX1_end_5 : decode cX1_end 5 = .ok (.aload_n 0, 1) := dk_42 (dk_at dksX1_end_0 5 rfl rfl)
theorem dX1_end_6 : decode cX1_end 6 = .ok (.getfield 46, 3) := dk_180 0 46 (dk_at dksX1_end_0 6 rfl rfl)
theorem dX1_end_9 : decode cX1_end 9 = .ok (.if_icmp .le 5, 3) := dk_164 0 5 (dk_at dksX1_end_0 9 rfl rfl)
theorem dX1_end_12 : decode cX1_end 12 = .ok (.iconst 0, 1) := dk_3 (dk_at dksX1_end_0 12 rfl rfl)
theorem dX1_end_13 : decode cX1_end 13 = .ok (.ireturn, 1) := dk_172 (dk_at dksX1_end_0 13 rfl rfl)
theorem dX1_end_14 : decode cX1_end 14 = .ok (.aload_n 0, 1) := dk_42 (dk_at dksX1_end_0 14 rfl rfl)
theorem dX1_end_15 : decode cX1_end 15 = .ok (.iload_n 1, 1) := dk_27 (dk_at dksX1_end_0 15 rfl rfl)
theorem dX1_end_16 : decode cX1_end 16 = .ok (.putfield 46, 3) := dk_181 0 46 (dk_at dksX1_end_0 16 rfl rfl)
theorem dX1_end_19 : decode cX1_end 19 = .ok (.iconst 1, 1) := dk_4 (dk_at dksX1_end_0 19 rfl rfl)
theorem dX1_end_20 : decode cX1_end 20 = .ok (.ireturn, 1) := dk_172 (dk_at dksX1_end_0 20 rfl rfl)
abbrev cX1_now : ByteArray := prog_1_method_16_code
def yX1_now : MethodName := ⟨RX1, "now", "(I)I"⟩
def dkwX1_now_4 : List UInt8 := [180, 0, 149, 172, 42, 180, 0, 46, 172, 2, 172]
abbrev dktX1_now_4 : List UInt8 := dkwX1_now_4 ++ []
def dkwX1_now_3 : List UInt8 := [42, 182, 0, 139, 172, 42, 182, 0, 143, 42, 180, 0, 85, 172, 42, 180, 0, 16, 180, 0, 146, 172, 42]
abbrev dktX1_now_3 : List UInt8 := dkwX1_now_3 ++ dktX1_now_4
def dkwX1_now_2 : List UInt8 := [42, 180, 0, 16, 180, 0, 60, 172, 42, 180, 0, 16, 180, 0, 137, 172, 42, 180, 0, 16, 180, 0, 67, 172]
abbrev dktX1_now_2 : List UInt8 := dkwX1_now_2 ++ dktX1_now_3
def dkwX1_now_1 : List UInt8 := [170, 0, 0, 0, 0, 0, 103, 0, 0, 0, 0, 0, 0, 0, 7, 0, 0, 0, 47, 0, 0, 0, 55, 0, 0, 0, 63, 0, 0, 0, 71, 0, 0, 0, 76, 0, 0, 0, 85, 0, 0, 0, 93, 0, 0, 0, 98]
abbrev dktX1_now_1 : List UInt8 := dkwX1_now_1 ++ dktX1_now_2
def dkwX1_now_0 : List UInt8 := [27]
abbrev dktX1_now_0 : List UInt8 := dkwX1_now_0 ++ dktX1_now_1
theorem dksX1_now_0 : cX1_now.data.toList.drop 0 = dktX1_now_0 := by decide +kernel
theorem dksX1_now_1 : cX1_now.data.toList.drop 1 = dktX1_now_1 := dk_seg dksX1_now_0 1 rfl rfl
theorem dksX1_now_2 : cX1_now.data.toList.drop 48 = dktX1_now_2 := dk_seg dksX1_now_1 47 rfl rfl
theorem dksX1_now_3 : cX1_now.data.toList.drop 72 = dktX1_now_3 := dk_seg dksX1_now_2 24 rfl rfl
theorem dksX1_now_4 : cX1_now.data.toList.drop 95 = dktX1_now_4 := dk_seg dksX1_now_3 23 rfl rfl
theorem dX1_now_0 : decode cX1_now 0 = .ok (.iload_n 1, 1) := dk_27 (dk_at dksX1_now_0 0 rfl rfl)
theorem dX1_now_1 : decode cX1_now 1 = .ok (.tableswitch 103 0 7 #[47, 55, 63, 71, 76, 85, 93, 98], 47) := by decide +kernel
theorem dX1_now_48 : decode cX1_now 48 = .ok (.aload_n 0, 1) := dk_42 (dk_at dksX1_now_2 0 rfl rfl)
theorem dX1_now_49 : decode cX1_now 49 = .ok (.getfield 16, 3) := dk_180 0 16 (dk_at dksX1_now_2 1 rfl rfl)
theorem dX1_now_52 : decode cX1_now 52 = .ok (.getfield 60, 3) := dk_180 0 60 (dk_at dksX1_now_2 4 rfl rfl)
theorem dX1_now_55 : decode cX1_now 55 = .ok (.ireturn, 1) := dk_172 (dk_at dksX1_now_2 7 rfl rfl)
theorem dX1_now_56 : decode cX1_now 56 = .ok (.aload_n 0, 1) := dk_42 (dk_at dksX1_now_2 8 rfl rfl)
theorem dX1_now_57 : decode cX1_now 57 = .ok (.getfield 16, 3) := dk_180 0 16 (dk_at dksX1_now_2 9 rfl rfl)
theorem dX1_now_60 : decode cX1_now 60 = .ok (.getfield 137, 3) := dk_180 0 137 (dk_at dksX1_now_2 12 rfl rfl)
theorem dX1_now_63 : decode cX1_now 63 = .ok (.ireturn, 1) := dk_172 (dk_at dksX1_now_2 15 rfl rfl)
theorem dX1_now_64 : decode cX1_now 64 = .ok (.aload_n 0, 1) := dk_42 (dk_at dksX1_now_2 16 rfl rfl)
theorem dX1_now_65 : decode cX1_now 65 = .ok (.getfield 16, 3) := dk_180 0 16 (dk_at dksX1_now_2 17 rfl rfl)
theorem dX1_now_68 : decode cX1_now 68 = .ok (.getfield 67, 3) := dk_180 0 67 (dk_at dksX1_now_2 20 rfl rfl)
theorem dX1_now_71 : decode cX1_now 71 = .ok (.ireturn, 1) := dk_172 (dk_at dksX1_now_2 23 rfl rfl)
theorem dX1_now_72 : decode cX1_now 72 = .ok (.aload_n 0, 1) := dk_42 (dk_at dksX1_now_3 0 rfl rfl)
theorem dX1_now_73 : decode cX1_now 73 = .ok (.invokevirtual 139, 3) := dk_182 0 139 (dk_at dksX1_now_3 1 rfl rfl)
theorem dX1_now_76 : decode cX1_now 76 = .ok (.ireturn, 1) := dk_172 (dk_at dksX1_now_3 4 rfl rfl)
theorem dX1_now_77 : decode cX1_now 77 = .ok (.aload_n 0, 1) := dk_42 (dk_at dksX1_now_3 5 rfl rfl)
theorem dX1_now_78 : decode cX1_now 78 = .ok (.invokevirtual 143, 3) := dk_182 0 143 (dk_at dksX1_now_3 6 rfl rfl)
theorem dX1_now_81 : decode cX1_now 81 = .ok (.aload_n 0, 1) := dk_42 (dk_at dksX1_now_3 9 rfl rfl)
theorem dX1_now_82 : decode cX1_now 82 = .ok (.getfield 85, 3) := dk_180 0 85 (dk_at dksX1_now_3 10 rfl rfl)
theorem dX1_now_85 : decode cX1_now 85 = .ok (.ireturn, 1) := dk_172 (dk_at dksX1_now_3 13 rfl rfl)
theorem dX1_now_86 : decode cX1_now 86 = .ok (.aload_n 0, 1) := dk_42 (dk_at dksX1_now_3 14 rfl rfl)
theorem dX1_now_87 : decode cX1_now 87 = .ok (.getfield 16, 3) := dk_180 0 16 (dk_at dksX1_now_3 15 rfl rfl)
theorem dX1_now_90 : decode cX1_now 90 = .ok (.getfield 146, 3) := dk_180 0 146 (dk_at dksX1_now_3 18 rfl rfl)
theorem dX1_now_93 : decode cX1_now 93 = .ok (.ireturn, 1) := dk_172 (dk_at dksX1_now_3 21 rfl rfl)
theorem dX1_now_94 : decode cX1_now 94 = .ok (.aload_n 0, 1) := dk_42 (dk_at dksX1_now_3 22 rfl rfl)
theorem dX1_now_95 : decode cX1_now 95 = .ok (.getfield 149, 3) := dk_180 0 149 (dk_at dksX1_now_4 0 rfl rfl)
theorem dX1_now_98 : decode cX1_now 98 = .ok (.ireturn, 1) := dk_172 (dk_at dksX1_now_4 3 rfl rfl)
theorem dX1_now_99 : decode cX1_now 99 = .ok (.aload_n 0, 1) := dk_42 (dk_at dksX1_now_4 4 rfl rfl)
theorem dX1_now_100 : decode cX1_now 100 = .ok (.getfield 46, 3) := dk_180 0 46 (dk_at dksX1_now_4 5 rfl rfl)
theorem dX1_now_103 : decode cX1_now 103 = .ok (.ireturn, 1) := dk_172 (dk_at dksX1_now_4 8 rfl rfl)
theorem dX1_now_104 : decode cX1_now 104 = .ok (.iconst (-1), 1) := dk_2 (dk_at dksX1_now_4 9 rfl rfl)
theorem dX1_now_105 : decode cX1_now 105 = .ok (.ireturn, 1) := dk_172 (dk_at dksX1_now_4 10 rfl rfl)
abbrev cX1_placed : ByteArray := prog_1_method_15_code
def yX1_placed : MethodName := ⟨RX1, "placed", "()I"⟩
def dkwX1_placed_1 : List UInt8 := [54, 5, 21, 5, 2, 159, 0, 6, 132, 1, 1, 132, 4, 1, 167, 255, 232, 27, 172]
abbrev dktX1_placed_1 : List UInt8 := dkwX1_placed_1 ++ []
def dkwX1_placed_0 : List UInt8 := [3, 60, 42, 180, 0, 24, 77, 44, 190, 62, 3, 54, 4, 21, 4, 29, 162, 0, 24, 44, 21, 4, 46]
abbrev dktX1_placed_0 : List UInt8 := dkwX1_placed_0 ++ dktX1_placed_1
theorem dksX1_placed_0 : cX1_placed.data.toList.drop 0 = dktX1_placed_0 := by decide +kernel
theorem dksX1_placed_1 : cX1_placed.data.toList.drop 23 = dktX1_placed_1 := dk_seg dksX1_placed_0 23 rfl rfl
theorem dX1_placed_0 : decode cX1_placed 0 = .ok (.iconst 0, 1) := dk_3 (dk_at dksX1_placed_0 0 rfl rfl)
theorem dX1_placed_1 : decode cX1_placed 1 = .ok (.istore_n 1, 1) := dk_60 (dk_at dksX1_placed_0 1 rfl rfl)
theorem dX1_placed_2 : decode cX1_placed 2 = .ok (.aload_n 0, 1) := dk_42 (dk_at dksX1_placed_0 2 rfl rfl)
theorem dX1_placed_3 : decode cX1_placed 3 = .ok (.getfield 24, 3) := dk_180 0 24 (dk_at dksX1_placed_0 3 rfl rfl)
theorem dX1_placed_6 : decode cX1_placed 6 = .ok (.astore_n 2, 1) := dk_77 (dk_at dksX1_placed_0 6 rfl rfl)
theorem dX1_placed_7 : decode cX1_placed 7 = .ok (.aload_n 2, 1) := dk_44 (dk_at dksX1_placed_0 7 rfl rfl)
theorem dX1_placed_8 : decode cX1_placed 8 = .ok (.arraylength, 1) := dk_190 (dk_at dksX1_placed_0 8 rfl rfl)
theorem dX1_placed_9 : decode cX1_placed 9 = .ok (.istore_n 3, 1) := dk_62 (dk_at dksX1_placed_0 9 rfl rfl)
theorem dX1_placed_10 : decode cX1_placed 10 = .ok (.iconst 0, 1) := dk_3 (dk_at dksX1_placed_0 10 rfl rfl)
theorem dX1_placed_11 : decode cX1_placed 11 = .ok (.istore 4, 2) := dk_54 4 (dk_at dksX1_placed_0 11 rfl rfl)
theorem dX1_placed_13 : decode cX1_placed 13 = .ok (.iload 4, 2) := dk_21 4 (dk_at dksX1_placed_0 13 rfl rfl)
theorem dX1_placed_15 : decode cX1_placed 15 = .ok (.iload_n 3, 1) := dk_29 (dk_at dksX1_placed_0 15 rfl rfl)
theorem dX1_placed_16 : decode cX1_placed 16 = .ok (.if_icmp .ge 24, 3) := dk_162 0 24 (dk_at dksX1_placed_0 16 rfl rfl)
theorem dX1_placed_19 : decode cX1_placed 19 = .ok (.aload_n 2, 1) := dk_44 (dk_at dksX1_placed_0 19 rfl rfl)
theorem dX1_placed_20 : decode cX1_placed 20 = .ok (.iload 4, 2) := dk_21 4 (dk_at dksX1_placed_0 20 rfl rfl)
theorem dX1_placed_22 : decode cX1_placed 22 = .ok (.iaload, 1) := dk_46 (dk_at dksX1_placed_0 22 rfl rfl)
theorem dX1_placed_23 : decode cX1_placed 23 = .ok (.istore 5, 2) := dk_54 5 (dk_at dksX1_placed_1 0 rfl rfl)
theorem dX1_placed_25 : decode cX1_placed 25 = .ok (.iload 5, 2) := dk_21 5 (dk_at dksX1_placed_1 2 rfl rfl)
theorem dX1_placed_27 : decode cX1_placed 27 = .ok (.iconst (-1), 1) := dk_2 (dk_at dksX1_placed_1 4 rfl rfl)
theorem dX1_placed_28 : decode cX1_placed 28 = .ok (.if_icmp .eq 6, 3) := dk_159 0 6 (dk_at dksX1_placed_1 5 rfl rfl)
theorem dX1_placed_31 : decode cX1_placed 31 = .ok (.iinc 1 1, 3) := dk_132 1 1 (dk_at dksX1_placed_1 8 rfl rfl)
theorem dX1_placed_34 : decode cX1_placed 34 = .ok (.iinc 4 1, 3) := dk_132 4 1 (dk_at dksX1_placed_1 11 rfl rfl)
theorem dX1_placed_37 : decode cX1_placed 37 = .ok (.goto (-24), 3) := dk_167 255 232 (dk_at dksX1_placed_1 14 rfl rfl)
theorem dX1_placed_40 : decode cX1_placed 40 = .ok (.iload_n 1, 1) := dk_27 (dk_at dksX1_placed_1 17 rfl rfl)
theorem dX1_placed_41 : decode cX1_placed 41 = .ok (.ireturn, 1) := dk_172 (dk_at dksX1_placed_1 18 rfl rfl)
abbrev cX1_laysCover : ByteArray := prog_1_method_11_code
def yX1_laysCover : MethodName := ⟨RX1, "laysCover", "()V"⟩
def dkwX1_laysCover_4 : List UInt8 := [180, 0, 24, 27, 46, 2, 182, 0, 94, 132, 1, 1, 167, 255, 220, 177]
abbrev dktX1_laysCover_4 : List UInt8 := dkwX1_laysCover_4 ++ []
def dkwX1_laysCover_3 : List UInt8 := [180, 0, 16, 180, 0, 67, 162, 0, 31, 42, 180, 0, 24, 27, 46, 2, 159, 0, 15, 42, 27, 42]
abbrev dktX1_laysCover_3 : List UInt8 := dkwX1_laysCover_3 ++ dktX1_laysCover_4
def dkwX1_laysCover_2 : List UInt8 := [180, 0, 28, 27, 46, 184, 0, 91, 96, 181, 0, 85, 132, 1, 1, 167, 255, 219, 3, 60, 27, 42]
abbrev dktX1_laysCover_2 : List UInt8 := dkwX1_laysCover_2 ++ dktX1_laysCover_3
def dkwX1_laysCover_1 : List UInt8 := [3, 60, 27, 17, 0, 144, 162, 0, 36, 42, 89, 180, 0, 85, 42, 180, 0, 16, 180, 0, 88, 27, 46, 42]
abbrev dktX1_laysCover_1 : List UInt8 := dkwX1_laysCover_1 ++ dktX1_laysCover_2
def dkwX1_laysCover_0 : List UInt8 := [42, 180, 0, 16, 180, 0, 76, 3, 42, 180, 0, 28, 3, 17, 0, 144, 184, 0, 79, 42, 3, 181, 0, 85]
abbrev dktX1_laysCover_0 : List UInt8 := dkwX1_laysCover_0 ++ dktX1_laysCover_1
theorem dksX1_laysCover_0 : cX1_laysCover.data.toList.drop 0 = dktX1_laysCover_0 := by decide +kernel
theorem dksX1_laysCover_1 : cX1_laysCover.data.toList.drop 24 = dktX1_laysCover_1 := dk_seg dksX1_laysCover_0 24 rfl rfl
theorem dksX1_laysCover_2 : cX1_laysCover.data.toList.drop 48 = dktX1_laysCover_2 := dk_seg dksX1_laysCover_1 24 rfl rfl
theorem dksX1_laysCover_3 : cX1_laysCover.data.toList.drop 70 = dktX1_laysCover_3 := dk_seg dksX1_laysCover_2 22 rfl rfl
theorem dksX1_laysCover_4 : cX1_laysCover.data.toList.drop 92 = dktX1_laysCover_4 := dk_seg dksX1_laysCover_3 22 rfl rfl
theorem dX1_laysCover_0 : decode cX1_laysCover 0 = .ok (.aload_n 0, 1) := dk_42 (dk_at dksX1_laysCover_0 0 rfl rfl)
theorem dX1_laysCover_1 : decode cX1_laysCover 1 = .ok (.getfield 16, 3) := dk_180 0 16 (dk_at dksX1_laysCover_0 1 rfl rfl)
theorem dX1_laysCover_4 : decode cX1_laysCover 4 = .ok (.getfield 76, 3) := dk_180 0 76 (dk_at dksX1_laysCover_0 4 rfl rfl)
theorem dX1_laysCover_7 : decode cX1_laysCover 7 = .ok (.iconst 0, 1) := dk_3 (dk_at dksX1_laysCover_0 7 rfl rfl)
theorem dX1_laysCover_8 : decode cX1_laysCover 8 = .ok (.aload_n 0, 1) := dk_42 (dk_at dksX1_laysCover_0 8 rfl rfl)
theorem dX1_laysCover_9 : decode cX1_laysCover 9 = .ok (.getfield 28, 3) := dk_180 0 28 (dk_at dksX1_laysCover_0 9 rfl rfl)
theorem dX1_laysCover_12 : decode cX1_laysCover 12 = .ok (.iconst 0, 1) := dk_3 (dk_at dksX1_laysCover_0 12 rfl rfl)
theorem dX1_laysCover_13 : decode cX1_laysCover 13 = .ok (.sipush 144, 3) := dk_17 0 144 (dk_at dksX1_laysCover_0 13 rfl rfl)
theorem dX1_laysCover_16 : decode cX1_laysCover 16 = .ok (.invokestatic 79, 3) := dk_184 0 79 (dk_at dksX1_laysCover_0 16 rfl rfl)
theorem dX1_laysCover_19 : decode cX1_laysCover 19 = .ok (.aload_n 0, 1) := dk_42 (dk_at dksX1_laysCover_0 19 rfl rfl)
theorem dX1_laysCover_20 : decode cX1_laysCover 20 = .ok (.iconst 0, 1) := dk_3 (dk_at dksX1_laysCover_0 20 rfl rfl)
theorem dX1_laysCover_21 : decode cX1_laysCover 21 = .ok (.putfield 85, 3) := dk_181 0 85 (dk_at dksX1_laysCover_0 21 rfl rfl)
theorem dX1_laysCover_24 : decode cX1_laysCover 24 = .ok (.iconst 0, 1) := dk_3 (dk_at dksX1_laysCover_1 0 rfl rfl)
theorem dX1_laysCover_25 : decode cX1_laysCover 25 = .ok (.istore_n 1, 1) := dk_60 (dk_at dksX1_laysCover_1 1 rfl rfl)
theorem dX1_laysCover_26 : decode cX1_laysCover 26 = .ok (.iload_n 1, 1) := dk_27 (dk_at dksX1_laysCover_1 2 rfl rfl)
theorem dX1_laysCover_27 : decode cX1_laysCover 27 = .ok (.sipush 144, 3) := dk_17 0 144 (dk_at dksX1_laysCover_1 3 rfl rfl)
theorem dX1_laysCover_30 : decode cX1_laysCover 30 = .ok (.if_icmp .ge 36, 3) := dk_162 0 36 (dk_at dksX1_laysCover_1 6 rfl rfl)
theorem dX1_laysCover_33 : decode cX1_laysCover 33 = .ok (.aload_n 0, 1) := dk_42 (dk_at dksX1_laysCover_1 9 rfl rfl)
theorem dX1_laysCover_34 : decode cX1_laysCover 34 = .ok (.dup, 1) := dk_89 (dk_at dksX1_laysCover_1 10 rfl rfl)
theorem dX1_laysCover_35 : decode cX1_laysCover 35 = .ok (.getfield 85, 3) := dk_180 0 85 (dk_at dksX1_laysCover_1 11 rfl rfl)
theorem dX1_laysCover_38 : decode cX1_laysCover 38 = .ok (.aload_n 0, 1) := dk_42 (dk_at dksX1_laysCover_1 14 rfl rfl)
theorem dX1_laysCover_39 : decode cX1_laysCover 39 = .ok (.getfield 16, 3) := dk_180 0 16 (dk_at dksX1_laysCover_1 15 rfl rfl)
theorem dX1_laysCover_42 : decode cX1_laysCover 42 = .ok (.getfield 88, 3) := dk_180 0 88 (dk_at dksX1_laysCover_1 18 rfl rfl)
theorem dX1_laysCover_45 : decode cX1_laysCover 45 = .ok (.iload_n 1, 1) := dk_27 (dk_at dksX1_laysCover_1 21 rfl rfl)
theorem dX1_laysCover_46 : decode cX1_laysCover 46 = .ok (.iaload, 1) := dk_46 (dk_at dksX1_laysCover_1 22 rfl rfl)
theorem dX1_laysCover_47 : decode cX1_laysCover 47 = .ok (.aload_n 0, 1) := dk_42 (dk_at dksX1_laysCover_1 23 rfl rfl)
theorem dX1_laysCover_48 : decode cX1_laysCover 48 = .ok (.getfield 28, 3) := dk_180 0 28 (dk_at dksX1_laysCover_2 0 rfl rfl)
theorem dX1_laysCover_51 : decode cX1_laysCover 51 = .ok (.iload_n 1, 1) := dk_27 (dk_at dksX1_laysCover_2 3 rfl rfl)
theorem dX1_laysCover_52 : decode cX1_laysCover 52 = .ok (.iaload, 1) := dk_46 (dk_at dksX1_laysCover_2 4 rfl rfl)
theorem dX1_laysCover_53 : decode cX1_laysCover 53 = .ok (.invokestatic 91, 3) := dk_184 0 91 (dk_at dksX1_laysCover_2 5 rfl rfl)
theorem dX1_laysCover_56 : decode cX1_laysCover 56 = .ok (.iadd, 1) := dk_96 (dk_at dksX1_laysCover_2 8 rfl rfl)
theorem dX1_laysCover_57 : decode cX1_laysCover 57 = .ok (.putfield 85, 3) := dk_181 0 85 (dk_at dksX1_laysCover_2 9 rfl rfl)
theorem dX1_laysCover_60 : decode cX1_laysCover 60 = .ok (.iinc 1 1, 3) := dk_132 1 1 (dk_at dksX1_laysCover_2 12 rfl rfl)
theorem dX1_laysCover_63 : decode cX1_laysCover 63 = .ok (.goto (-37), 3) := dk_167 255 219 (dk_at dksX1_laysCover_2 15 rfl rfl)
theorem dX1_laysCover_66 : decode cX1_laysCover 66 = .ok (.iconst 0, 1) := dk_3 (dk_at dksX1_laysCover_2 18 rfl rfl)
theorem dX1_laysCover_67 : decode cX1_laysCover 67 = .ok (.istore_n 1, 1) := dk_60 (dk_at dksX1_laysCover_2 19 rfl rfl)
theorem dX1_laysCover_68 : decode cX1_laysCover 68 = .ok (.iload_n 1, 1) := dk_27 (dk_at dksX1_laysCover_2 20 rfl rfl)
theorem dX1_laysCover_69 : decode cX1_laysCover 69 = .ok (.aload_n 0, 1) := dk_42 (dk_at dksX1_laysCover_2 21 rfl rfl)
theorem dX1_laysCover_70 : decode cX1_laysCover 70 = .ok (.getfield 16, 3) := dk_180 0 16 (dk_at dksX1_laysCover_3 0 rfl rfl)
theorem dX1_laysCover_73 : decode cX1_laysCover 73 = .ok (.getfield 67, 3) := dk_180 0 67 (dk_at dksX1_laysCover_3 3 rfl rfl)
theorem dX1_laysCover_76 : decode cX1_laysCover 76 = .ok (.if_icmp .ge 31, 3) := dk_162 0 31 (dk_at dksX1_laysCover_3 6 rfl rfl)
theorem dX1_laysCover_79 : decode cX1_laysCover 79 = .ok (.aload_n 0, 1) := dk_42 (dk_at dksX1_laysCover_3 9 rfl rfl)
theorem dX1_laysCover_80 : decode cX1_laysCover 80 = .ok (.getfield 24, 3) := dk_180 0 24 (dk_at dksX1_laysCover_3 10 rfl rfl)
theorem dX1_laysCover_83 : decode cX1_laysCover 83 = .ok (.iload_n 1, 1) := dk_27 (dk_at dksX1_laysCover_3 13 rfl rfl)
theorem dX1_laysCover_84 : decode cX1_laysCover 84 = .ok (.iaload, 1) := dk_46 (dk_at dksX1_laysCover_3 14 rfl rfl)
theorem dX1_laysCover_85 : decode cX1_laysCover 85 = .ok (.iconst (-1), 1) := dk_2 (dk_at dksX1_laysCover_3 15 rfl rfl)
theorem dX1_laysCover_86 : decode cX1_laysCover 86 = .ok (.if_icmp .eq 15, 3) := dk_159 0 15 (dk_at dksX1_laysCover_3 16 rfl rfl)
theorem dX1_laysCover_89 : decode cX1_laysCover 89 = .ok (.aload_n 0, 1) := dk_42 (dk_at dksX1_laysCover_3 19 rfl rfl)
theorem dX1_laysCover_90 : decode cX1_laysCover 90 = .ok (.iload_n 1, 1) := dk_27 (dk_at dksX1_laysCover_3 20 rfl rfl)
theorem dX1_laysCover_91 : decode cX1_laysCover 91 = .ok (.aload_n 0, 1) := dk_42 (dk_at dksX1_laysCover_3 21 rfl rfl)
theorem dX1_laysCover_92 : decode cX1_laysCover 92 = .ok (.getfield 24, 3) := dk_180 0 24 (dk_at dksX1_laysCover_4 0 rfl rfl)
theorem dX1_laysCover_95 : decode cX1_laysCover 95 = .ok (.iload_n 1, 1) := dk_27 (dk_at dksX1_laysCover_4 3 rfl rfl)
theorem dX1_laysCover_96 : decode cX1_laysCover 96 = .ok (.iaload, 1) := dk_46 (dk_at dksX1_laysCover_4 4 rfl rfl)
theorem dX1_laysCover_97 : decode cX1_laysCover 97 = .ok (.iconst (-1), 1) := dk_2 (dk_at dksX1_laysCover_4 5 rfl rfl)
theorem dX1_laysCover_98 : decode cX1_laysCover 98 = .ok (.invokevirtual 94, 3) := dk_182 0 94 (dk_at dksX1_laysCover_4 6 rfl rfl)
theorem dX1_laysCover_101 : decode cX1_laysCover 101 = .ok (.iinc 1 1, 3) := dk_132 1 1 (dk_at dksX1_laysCover_4 9 rfl rfl)
theorem dX1_laysCover_104 : decode cX1_laysCover 104 = .ok (.goto (-36), 3) := dk_167 255 220 (dk_at dksX1_laysCover_4 12 rfl rfl)
theorem dX1_laysCover_107 : decode cX1_laysCover 107 = .ok (.return_, 1) := dk_177 (dk_at dksX1_laysCover_4 15 rfl rfl)
abbrev cX1_shortOf : ByteArray := prog_1_method_10_code
def yX1_shortOf : MethodName := ⟨RX1, "shortOf", "(II)I"⟩
def dkwX1_shortOf_0 : List UInt8 := [3, 26, 27, 100, 184, 0, 70, 172]
abbrev dktX1_shortOf_0 : List UInt8 := dkwX1_shortOf_0 ++ []
theorem dksX1_shortOf_0 : cX1_shortOf.data.toList.drop 0 = dktX1_shortOf_0 := by decide +kernel
theorem dX1_shortOf_0 : decode cX1_shortOf 0 = .ok (.iconst 0, 1) := dk_3 (dk_at dksX1_shortOf_0 0 rfl rfl)
theorem dX1_shortOf_1 : decode cX1_shortOf 1 = .ok (.iload_n 0, 1) := dk_26 (dk_at dksX1_shortOf_0 1 rfl rfl)
theorem dX1_shortOf_2 : decode cX1_shortOf 2 = .ok (.iload_n 1, 1) := dk_27 (dk_at dksX1_shortOf_0 2 rfl rfl)
theorem dX1_shortOf_3 : decode cX1_shortOf 3 = .ok (.isub, 1) := dk_100 (dk_at dksX1_shortOf_0 3 rfl rfl)
theorem dX1_shortOf_4 : decode cX1_shortOf 4 = .ok (.invokestatic 70, 3) := dk_184 0 70 (dk_at dksX1_shortOf_0 4 rfl rfl)
theorem dX1_shortOf_7 : decode cX1_shortOf 7 = .ok (.ireturn, 1) := dk_172 (dk_at dksX1_shortOf_0 7 rfl rfl)
abbrev cX1_shifts : ByteArray := prog_1_method_12_code
def yX1_shifts : MethodName := ⟨RX1, "shifts", "(III)V"⟩
def dkwX1_shifts_5 : List UInt8 := [184, 0, 91, 96, 181, 0, 85, 132, 6, 1, 167, 255, 171, 177]
abbrev dktX1_shifts_5 : List UInt8 := dkwX1_shifts_5 ++ []
def dkwX1_shifts_4 : List UInt8 := [42, 89, 180, 0, 85, 42, 180, 0, 16, 180, 0, 88, 21, 6, 46, 42, 180, 0, 28, 21, 6, 46]
abbrev dktX1_shifts_4 : List UInt8 := dkwX1_shifts_4 ++ dktX1_shifts_5
def dkwX1_shifts_3 : List UInt8 := [180, 0, 28, 21, 6, 46, 184, 0, 91, 100, 181, 0, 85, 42, 180, 0, 28, 21, 6, 92, 46, 29, 96, 79]
abbrev dktX1_shifts_3 : List UInt8 := dkwX1_shifts_3 ++ dktX1_shifts_4
def dkwX1_shifts_2 : List UInt8 := [180, 0, 115, 96, 162, 0, 78, 42, 89, 180, 0, 85, 42, 180, 0, 16, 180, 0, 88, 21, 6, 46, 42]
abbrev dktX1_shifts_2 : List UInt8 := dkwX1_shifts_2 ++ dktX1_shifts_3
def dkwX1_shifts_1 : List UInt8 := [180, 0, 106, 50, 180, 0, 110, 104, 28, 96, 54, 5, 21, 5, 54, 6, 21, 6, 21, 5, 25, 4]
abbrev dktX1_shifts_1 : List UInt8 := dkwX1_shifts_1 ++ dktX1_shifts_2
def dkwX1_shifts_0 : List UInt8 := [42, 180, 0, 16, 180, 0, 98, 27, 50, 58, 4, 16, 48, 42, 180, 0, 16, 180, 0, 102, 25, 4]
abbrev dktX1_shifts_0 : List UInt8 := dkwX1_shifts_0 ++ dktX1_shifts_1
theorem dksX1_shifts_0 : cX1_shifts.data.toList.drop 0 = dktX1_shifts_0 := by decide +kernel
theorem dksX1_shifts_1 : cX1_shifts.data.toList.drop 22 = dktX1_shifts_1 := dk_seg dksX1_shifts_0 22 rfl rfl
theorem dksX1_shifts_2 : cX1_shifts.data.toList.drop 44 = dktX1_shifts_2 := dk_seg dksX1_shifts_1 22 rfl rfl
theorem dksX1_shifts_3 : cX1_shifts.data.toList.drop 67 = dktX1_shifts_3 := dk_seg dksX1_shifts_2 23 rfl rfl
theorem dksX1_shifts_4 : cX1_shifts.data.toList.drop 91 = dktX1_shifts_4 := dk_seg dksX1_shifts_3 24 rfl rfl
theorem dksX1_shifts_5 : cX1_shifts.data.toList.drop 113 = dktX1_shifts_5 := dk_seg dksX1_shifts_4 22 rfl rfl
theorem dX1_shifts_0 : decode cX1_shifts 0 = .ok (.aload_n 0, 1) := dk_42 (dk_at dksX1_shifts_0 0 rfl rfl)
theorem dX1_shifts_1 : decode cX1_shifts 1 = .ok (.getfield 16, 3) := dk_180 0 16 (dk_at dksX1_shifts_0 1 rfl rfl)
theorem dX1_shifts_4 : decode cX1_shifts 4 = .ok (.getfield 98, 3) := dk_180 0 98 (dk_at dksX1_shifts_0 4 rfl rfl)
theorem dX1_shifts_7 : decode cX1_shifts 7 = .ok (.iload_n 1, 1) := dk_27 (dk_at dksX1_shifts_0 7 rfl rfl)
theorem dX1_shifts_8 : decode cX1_shifts 8 = .ok (.aaload, 1) := dk_50 (dk_at dksX1_shifts_0 8 rfl rfl)
theorem dX1_shifts_9 : decode cX1_shifts 9 = .ok (.astore 4, 2) := dk_58 4 (dk_at dksX1_shifts_0 9 rfl rfl)
theorem dX1_shifts_11 : decode cX1_shifts 11 = .ok (.bipush 48, 2) := dk_16 48 (dk_at dksX1_shifts_0 11 rfl rfl)
theorem dX1_shifts_13 : decode cX1_shifts 13 = .ok (.aload_n 0, 1) := dk_42 (dk_at dksX1_shifts_0 13 rfl rfl)
theorem dX1_shifts_14 : decode cX1_shifts 14 = .ok (.getfield 16, 3) := dk_180 0 16 (dk_at dksX1_shifts_0 14 rfl rfl)
theorem dX1_shifts_17 : decode cX1_shifts 17 = .ok (.getfield 102, 3) := dk_180 0 102 (dk_at dksX1_shifts_0 17 rfl rfl)
theorem dX1_shifts_20 : decode cX1_shifts 20 = .ok (.aload 4, 2) := dk_25 4 (dk_at dksX1_shifts_0 20 rfl rfl)
theorem dX1_shifts_22 : decode cX1_shifts 22 = .ok (.getfield 106, 3) := dk_180 0 106 (dk_at dksX1_shifts_1 0 rfl rfl)
theorem dX1_shifts_25 : decode cX1_shifts 25 = .ok (.aaload, 1) := dk_50 (dk_at dksX1_shifts_1 3 rfl rfl)
theorem dX1_shifts_26 : decode cX1_shifts 26 = .ok (.getfield 110, 3) := dk_180 0 110 (dk_at dksX1_shifts_1 4 rfl rfl)
theorem dX1_shifts_29 : decode cX1_shifts 29 = .ok (.imul, 1) := dk_104 (dk_at dksX1_shifts_1 7 rfl rfl)
theorem dX1_shifts_30 : decode cX1_shifts 30 = .ok (.iload_n 2, 1) := dk_28 (dk_at dksX1_shifts_1 8 rfl rfl)
theorem dX1_shifts_31 : decode cX1_shifts 31 = .ok (.iadd, 1) := dk_96 (dk_at dksX1_shifts_1 9 rfl rfl)
theorem dX1_shifts_32 : decode cX1_shifts 32 = .ok (.istore 5, 2) := dk_54 5 (dk_at dksX1_shifts_1 10 rfl rfl)
theorem dX1_shifts_34 : decode cX1_shifts 34 = .ok (.iload 5, 2) := dk_21 5 (dk_at dksX1_shifts_1 12 rfl rfl)
theorem dX1_shifts_36 : decode cX1_shifts 36 = .ok (.istore 6, 2) := dk_54 6 (dk_at dksX1_shifts_1 14 rfl rfl)
theorem dX1_shifts_38 : decode cX1_shifts 38 = .ok (.iload 6, 2) := dk_21 6 (dk_at dksX1_shifts_1 16 rfl rfl)
theorem dX1_shifts_40 : decode cX1_shifts 40 = .ok (.iload 5, 2) := dk_21 5 (dk_at dksX1_shifts_1 18 rfl rfl)
theorem dX1_shifts_42 : decode cX1_shifts 42 = .ok (.aload 4, 2) := dk_25 4 (dk_at dksX1_shifts_1 20 rfl rfl)
theorem dX1_shifts_44 : decode cX1_shifts 44 = .ok (.getfield 115, 3) := dk_180 0 115 (dk_at dksX1_shifts_2 0 rfl rfl)
theorem dX1_shifts_47 : decode cX1_shifts 47 = .ok (.iadd, 1) := dk_96 (dk_at dksX1_shifts_2 3 rfl rfl)
theorem dX1_shifts_48 : decode cX1_shifts 48 = .ok (.if_icmp .ge 78, 3) := dk_162 0 78 (dk_at dksX1_shifts_2 4 rfl rfl)
theorem dX1_shifts_51 : decode cX1_shifts 51 = .ok (.aload_n 0, 1) := dk_42 (dk_at dksX1_shifts_2 7 rfl rfl)
theorem dX1_shifts_52 : decode cX1_shifts 52 = .ok (.dup, 1) := dk_89 (dk_at dksX1_shifts_2 8 rfl rfl)
theorem dX1_shifts_53 : decode cX1_shifts 53 = .ok (.getfield 85, 3) := dk_180 0 85 (dk_at dksX1_shifts_2 9 rfl rfl)
theorem dX1_shifts_56 : decode cX1_shifts 56 = .ok (.aload_n 0, 1) := dk_42 (dk_at dksX1_shifts_2 12 rfl rfl)
theorem dX1_shifts_57 : decode cX1_shifts 57 = .ok (.getfield 16, 3) := dk_180 0 16 (dk_at dksX1_shifts_2 13 rfl rfl)
theorem dX1_shifts_60 : decode cX1_shifts 60 = .ok (.getfield 88, 3) := dk_180 0 88 (dk_at dksX1_shifts_2 16 rfl rfl)
theorem dX1_shifts_63 : decode cX1_shifts 63 = .ok (.iload 6, 2) := dk_21 6 (dk_at dksX1_shifts_2 19 rfl rfl)
theorem dX1_shifts_65 : decode cX1_shifts 65 = .ok (.iaload, 1) := dk_46 (dk_at dksX1_shifts_2 21 rfl rfl)
theorem dX1_shifts_66 : decode cX1_shifts 66 = .ok (.aload_n 0, 1) := dk_42 (dk_at dksX1_shifts_2 22 rfl rfl)
theorem dX1_shifts_67 : decode cX1_shifts 67 = .ok (.getfield 28, 3) := dk_180 0 28 (dk_at dksX1_shifts_3 0 rfl rfl)
theorem dX1_shifts_70 : decode cX1_shifts 70 = .ok (.iload 6, 2) := dk_21 6 (dk_at dksX1_shifts_3 3 rfl rfl)
theorem dX1_shifts_72 : decode cX1_shifts 72 = .ok (.iaload, 1) := dk_46 (dk_at dksX1_shifts_3 5 rfl rfl)
theorem dX1_shifts_73 : decode cX1_shifts 73 = .ok (.invokestatic 91, 3) := dk_184 0 91 (dk_at dksX1_shifts_3 6 rfl rfl)
theorem dX1_shifts_76 : decode cX1_shifts 76 = .ok (.isub, 1) := dk_100 (dk_at dksX1_shifts_3 9 rfl rfl)
theorem dX1_shifts_77 : decode cX1_shifts 77 = .ok (.putfield 85, 3) := dk_181 0 85 (dk_at dksX1_shifts_3 10 rfl rfl)
theorem dX1_shifts_80 : decode cX1_shifts 80 = .ok (.aload_n 0, 1) := dk_42 (dk_at dksX1_shifts_3 13 rfl rfl)
theorem dX1_shifts_81 : decode cX1_shifts 81 = .ok (.getfield 28, 3) := dk_180 0 28 (dk_at dksX1_shifts_3 14 rfl rfl)
theorem dX1_shifts_84 : decode cX1_shifts 84 = .ok (.iload 6, 2) := dk_21 6 (dk_at dksX1_shifts_3 17 rfl rfl)
theorem dX1_shifts_86 : decode cX1_shifts 86 = .ok (.dup2, 1) := dk_92 (dk_at dksX1_shifts_3 19 rfl rfl)
theorem dX1_shifts_87 : decode cX1_shifts 87 = .ok (.iaload, 1) := dk_46 (dk_at dksX1_shifts_3 20 rfl rfl)
theorem dX1_shifts_88 : decode cX1_shifts 88 = .ok (.iload_n 3, 1) := dk_29 (dk_at dksX1_shifts_3 21 rfl rfl)
theorem dX1_shifts_89 : decode cX1_shifts 89 = .ok (.iadd, 1) := dk_96 (dk_at dksX1_shifts_3 22 rfl rfl)
theorem dX1_shifts_90 : decode cX1_shifts 90 = .ok (.iastore, 1) := dk_79 (dk_at dksX1_shifts_3 23 rfl rfl)
theorem dX1_shifts_91 : decode cX1_shifts 91 = .ok (.aload_n 0, 1) := dk_42 (dk_at dksX1_shifts_4 0 rfl rfl)
theorem dX1_shifts_92 : decode cX1_shifts 92 = .ok (.dup, 1) := dk_89 (dk_at dksX1_shifts_4 1 rfl rfl)
theorem dX1_shifts_93 : decode cX1_shifts 93 = .ok (.getfield 85, 3) := dk_180 0 85 (dk_at dksX1_shifts_4 2 rfl rfl)
theorem dX1_shifts_96 : decode cX1_shifts 96 = .ok (.aload_n 0, 1) := dk_42 (dk_at dksX1_shifts_4 5 rfl rfl)
theorem dX1_shifts_97 : decode cX1_shifts 97 = .ok (.getfield 16, 3) := dk_180 0 16 (dk_at dksX1_shifts_4 6 rfl rfl)
theorem dX1_shifts_100 : decode cX1_shifts 100 = .ok (.getfield 88, 3) := dk_180 0 88 (dk_at dksX1_shifts_4 9 rfl rfl)
theorem dX1_shifts_103 : decode cX1_shifts 103 = .ok (.iload 6, 2) := dk_21 6 (dk_at dksX1_shifts_4 12 rfl rfl)
theorem dX1_shifts_105 : decode cX1_shifts 105 = .ok (.iaload, 1) := dk_46 (dk_at dksX1_shifts_4 14 rfl rfl)
theorem dX1_shifts_106 : decode cX1_shifts 106 = .ok (.aload_n 0, 1) := dk_42 (dk_at dksX1_shifts_4 15 rfl rfl)
theorem dX1_shifts_107 : decode cX1_shifts 107 = .ok (.getfield 28, 3) := dk_180 0 28 (dk_at dksX1_shifts_4 16 rfl rfl)
theorem dX1_shifts_110 : decode cX1_shifts 110 = .ok (.iload 6, 2) := dk_21 6 (dk_at dksX1_shifts_4 19 rfl rfl)
theorem dX1_shifts_112 : decode cX1_shifts 112 = .ok (.iaload, 1) := dk_46 (dk_at dksX1_shifts_4 21 rfl rfl)
theorem dX1_shifts_113 : decode cX1_shifts 113 = .ok (.invokestatic 91, 3) := dk_184 0 91 (dk_at dksX1_shifts_5 0 rfl rfl)
theorem dX1_shifts_116 : decode cX1_shifts 116 = .ok (.iadd, 1) := dk_96 (dk_at dksX1_shifts_5 3 rfl rfl)
theorem dX1_shifts_117 : decode cX1_shifts 117 = .ok (.putfield 85, 3) := dk_181 0 85 (dk_at dksX1_shifts_5 4 rfl rfl)
theorem dX1_shifts_120 : decode cX1_shifts 120 = .ok (.iinc 6 1, 3) := dk_132 6 1 (dk_at dksX1_shifts_5 7 rfl rfl)
theorem dX1_shifts_123 : decode cX1_shifts 123 = .ok (.goto (-85), 3) := dk_167 255 171 (dk_at dksX1_shifts_5 10 rfl rfl)
theorem dX1_shifts_126 : decode cX1_shifts 126 = .ok (.return_, 1) := dk_177 (dk_at dksX1_shifts_5 13 rfl rfl)
abbrev cX1_slot : ByteArray := prog_1_method_19_code
def yX1_slot : MethodName := ⟨RX1, "slot", "(III)I"⟩
def dkwX1_slot_3 : List UInt8 := [180, 0, 88, 21, 4, 46, 42, 180, 0, 28, 21, 4, 46, 184, 0, 91, 167, 0, 4, 2, 172]
abbrev dktX1_slot_3 : List UInt8 := dkwX1_slot_3 ++ []
def dkwX1_slot_2 : List UInt8 := [160, 0, 13, 42, 180, 0, 28, 21, 4, 46, 167, 0, 32, 29, 5, 160, 0, 26, 42, 180, 0, 16]
abbrev dktX1_slot_2 : List UInt8 := dkwX1_slot_2 ++ dktX1_slot_3
def dkwX1_slot_1 : List UInt8 := [104, 28, 96, 54, 4, 29, 154, 0, 16, 42, 180, 0, 16, 180, 0, 88, 21, 4, 46, 167, 0, 47, 29, 4]
abbrev dktX1_slot_1 : List UInt8 := dkwX1_slot_1 ++ dktX1_slot_2
def dkwX1_slot_0 : List UInt8 := [42, 27, 182, 0, 169, 153, 0, 10, 28, 184, 0, 172, 154, 0, 5, 2, 172, 42, 182, 0, 143, 16, 48, 27]
abbrev dktX1_slot_0 : List UInt8 := dkwX1_slot_0 ++ dktX1_slot_1
theorem dksX1_slot_0 : cX1_slot.data.toList.drop 0 = dktX1_slot_0 := by decide +kernel
theorem dksX1_slot_1 : cX1_slot.data.toList.drop 24 = dktX1_slot_1 := dk_seg dksX1_slot_0 24 rfl rfl
theorem dksX1_slot_2 : cX1_slot.data.toList.drop 48 = dktX1_slot_2 := dk_seg dksX1_slot_1 24 rfl rfl
theorem dksX1_slot_3 : cX1_slot.data.toList.drop 70 = dktX1_slot_3 := dk_seg dksX1_slot_2 22 rfl rfl
theorem dX1_slot_0 : decode cX1_slot 0 = .ok (.aload_n 0, 1) := dk_42 (dk_at dksX1_slot_0 0 rfl rfl)
theorem dX1_slot_1 : decode cX1_slot 1 = .ok (.iload_n 1, 1) := dk_27 (dk_at dksX1_slot_0 1 rfl rfl)
theorem dX1_slot_2 : decode cX1_slot 2 = .ok (.invokevirtual 169, 3) := dk_182 0 169 (dk_at dksX1_slot_0 2 rfl rfl)
theorem dX1_slot_5 : decode cX1_slot 5 = .ok (.ifCond .eq 10, 3) := dk_153 0 10 (dk_at dksX1_slot_0 5 rfl rfl)
theorem dX1_slot_8 : decode cX1_slot 8 = .ok (.iload_n 2, 1) := dk_28 (dk_at dksX1_slot_0 8 rfl rfl)
theorem dX1_slot_9 : decode cX1_slot 9 = .ok (.invokestatic 172, 3) := dk_184 0 172 (dk_at dksX1_slot_0 9 rfl rfl)
theorem dX1_slot_12 : decode cX1_slot 12 = .ok (.ifCond .ne 5, 3) := dk_154 0 5 (dk_at dksX1_slot_0 12 rfl rfl)
theorem dX1_slot_15 : decode cX1_slot 15 = .ok (.iconst (-1), 1) := dk_2 (dk_at dksX1_slot_0 15 rfl rfl)
theorem dX1_slot_16 : decode cX1_slot 16 = .ok (.ireturn, 1) := dk_172 (dk_at dksX1_slot_0 16 rfl rfl)
theorem dX1_slot_17 : decode cX1_slot 17 = .ok (.aload_n 0, 1) := dk_42 (dk_at dksX1_slot_0 17 rfl rfl)
theorem dX1_slot_18 : decode cX1_slot 18 = .ok (.invokevirtual 143, 3) := dk_182 0 143 (dk_at dksX1_slot_0 18 rfl rfl)
theorem dX1_slot_21 : decode cX1_slot 21 = .ok (.bipush 48, 2) := dk_16 48 (dk_at dksX1_slot_0 21 rfl rfl)
theorem dX1_slot_23 : decode cX1_slot 23 = .ok (.iload_n 1, 1) := dk_27 (dk_at dksX1_slot_0 23 rfl rfl)
theorem dX1_slot_24 : decode cX1_slot 24 = .ok (.imul, 1) := dk_104 (dk_at dksX1_slot_1 0 rfl rfl)
theorem dX1_slot_25 : decode cX1_slot 25 = .ok (.iload_n 2, 1) := dk_28 (dk_at dksX1_slot_1 1 rfl rfl)
theorem dX1_slot_26 : decode cX1_slot 26 = .ok (.iadd, 1) := dk_96 (dk_at dksX1_slot_1 2 rfl rfl)
theorem dX1_slot_27 : decode cX1_slot 27 = .ok (.istore 4, 2) := dk_54 4 (dk_at dksX1_slot_1 3 rfl rfl)
theorem dX1_slot_29 : decode cX1_slot 29 = .ok (.iload_n 3, 1) := dk_29 (dk_at dksX1_slot_1 5 rfl rfl)
theorem dX1_slot_30 : decode cX1_slot 30 = .ok (.ifCond .ne 16, 3) := dk_154 0 16 (dk_at dksX1_slot_1 6 rfl rfl)
theorem dX1_slot_33 : decode cX1_slot 33 = .ok (.aload_n 0, 1) := dk_42 (dk_at dksX1_slot_1 9 rfl rfl)
theorem dX1_slot_34 : decode cX1_slot 34 = .ok (.getfield 16, 3) := dk_180 0 16 (dk_at dksX1_slot_1 10 rfl rfl)
theorem dX1_slot_37 : decode cX1_slot 37 = .ok (.getfield 88, 3) := dk_180 0 88 (dk_at dksX1_slot_1 13 rfl rfl)
theorem dX1_slot_40 : decode cX1_slot 40 = .ok (.iload 4, 2) := dk_21 4 (dk_at dksX1_slot_1 16 rfl rfl)
theorem dX1_slot_42 : decode cX1_slot 42 = .ok (.iaload, 1) := dk_46 (dk_at dksX1_slot_1 18 rfl rfl)
theorem dX1_slot_43 : decode cX1_slot 43 = .ok (.goto 47, 3) := dk_167 0 47 (dk_at dksX1_slot_1 19 rfl rfl)
theorem dX1_slot_46 : decode cX1_slot 46 = .ok (.iload_n 3, 1) := dk_29 (dk_at dksX1_slot_1 22 rfl rfl)
theorem dX1_slot_47 : decode cX1_slot 47 = .ok (.iconst 1, 1) := dk_4 (dk_at dksX1_slot_1 23 rfl rfl)
theorem dX1_slot_48 : decode cX1_slot 48 = .ok (.if_icmp .ne 13, 3) := dk_160 0 13 (dk_at dksX1_slot_2 0 rfl rfl)
theorem dX1_slot_51 : decode cX1_slot 51 = .ok (.aload_n 0, 1) := dk_42 (dk_at dksX1_slot_2 3 rfl rfl)
theorem dX1_slot_52 : decode cX1_slot 52 = .ok (.getfield 28, 3) := dk_180 0 28 (dk_at dksX1_slot_2 4 rfl rfl)
theorem dX1_slot_55 : decode cX1_slot 55 = .ok (.iload 4, 2) := dk_21 4 (dk_at dksX1_slot_2 7 rfl rfl)
theorem dX1_slot_57 : decode cX1_slot 57 = .ok (.iaload, 1) := dk_46 (dk_at dksX1_slot_2 9 rfl rfl)
theorem dX1_slot_58 : decode cX1_slot 58 = .ok (.goto 32, 3) := dk_167 0 32 (dk_at dksX1_slot_2 10 rfl rfl)
theorem dX1_slot_61 : decode cX1_slot 61 = .ok (.iload_n 3, 1) := dk_29 (dk_at dksX1_slot_2 13 rfl rfl)
theorem dX1_slot_62 : decode cX1_slot 62 = .ok (.iconst 2, 1) := dk_5 (dk_at dksX1_slot_2 14 rfl rfl)
theorem dX1_slot_63 : decode cX1_slot 63 = .ok (.if_icmp .ne 26, 3) := dk_160 0 26 (dk_at dksX1_slot_2 15 rfl rfl)
theorem dX1_slot_66 : decode cX1_slot 66 = .ok (.aload_n 0, 1) := dk_42 (dk_at dksX1_slot_2 18 rfl rfl)
theorem dX1_slot_67 : decode cX1_slot 67 = .ok (.getfield 16, 3) := dk_180 0 16 (dk_at dksX1_slot_2 19 rfl rfl)
theorem dX1_slot_70 : decode cX1_slot 70 = .ok (.getfield 88, 3) := dk_180 0 88 (dk_at dksX1_slot_3 0 rfl rfl)
theorem dX1_slot_73 : decode cX1_slot 73 = .ok (.iload 4, 2) := dk_21 4 (dk_at dksX1_slot_3 3 rfl rfl)
theorem dX1_slot_75 : decode cX1_slot 75 = .ok (.iaload, 1) := dk_46 (dk_at dksX1_slot_3 5 rfl rfl)
theorem dX1_slot_76 : decode cX1_slot 76 = .ok (.aload_n 0, 1) := dk_42 (dk_at dksX1_slot_3 6 rfl rfl)
theorem dX1_slot_77 : decode cX1_slot 77 = .ok (.getfield 28, 3) := dk_180 0 28 (dk_at dksX1_slot_3 7 rfl rfl)
theorem dX1_slot_80 : decode cX1_slot 80 = .ok (.iload 4, 2) := dk_21 4 (dk_at dksX1_slot_3 10 rfl rfl)
theorem dX1_slot_82 : decode cX1_slot 82 = .ok (.iaload, 1) := dk_46 (dk_at dksX1_slot_3 12 rfl rfl)
theorem dX1_slot_83 : decode cX1_slot 83 = .ok (.invokestatic 91, 3) := dk_184 0 91 (dk_at dksX1_slot_3 13 rfl rfl)
theorem dX1_slot_86 : decode cX1_slot 86 = .ok (.goto 4, 3) := dk_167 0 4 (dk_at dksX1_slot_3 16 rfl rfl)
theorem dX1_slot_89 : decode cX1_slot 89 = .ok (.iconst (-1), 1) := dk_2 (dk_at dksX1_slot_3 19 rfl rfl)
theorem dX1_slot_90 : decode cX1_slot 90 = .ok (.ireturn, 1) := dk_172 (dk_at dksX1_slot_3 20 rfl rfl)
abbrev cX1_isPost : ByteArray := prog_1_method_7_code
def yX1_isPost : MethodName := ⟨RX1, "isPost", "(I)Z"⟩
def dkwX1_isPost_0 : List UInt8 := [27, 3, 42, 180, 0, 16, 180, 0, 60, 4, 100, 184, 0, 63, 172]
abbrev dktX1_isPost_0 : List UInt8 := dkwX1_isPost_0 ++ []
theorem dksX1_isPost_0 : cX1_isPost.data.toList.drop 0 = dktX1_isPost_0 := by decide +kernel
theorem dX1_isPost_0 : decode cX1_isPost 0 = .ok (.iload_n 1, 1) := dk_27 (dk_at dksX1_isPost_0 0 rfl rfl)
theorem dX1_isPost_1 : decode cX1_isPost 1 = .ok (.iconst 0, 1) := dk_3 (dk_at dksX1_isPost_0 1 rfl rfl)
theorem dX1_isPost_2 : decode cX1_isPost 2 = .ok (.aload_n 0, 1) := dk_42 (dk_at dksX1_isPost_0 2 rfl rfl)
theorem dX1_isPost_3 : decode cX1_isPost 3 = .ok (.getfield 16, 3) := dk_180 0 16 (dk_at dksX1_isPost_0 3 rfl rfl)
theorem dX1_isPost_6 : decode cX1_isPost 6 = .ok (.getfield 60, 3) := dk_180 0 60 (dk_at dksX1_isPost_0 6 rfl rfl)
theorem dX1_isPost_9 : decode cX1_isPost 9 = .ok (.iconst 1, 1) := dk_4 (dk_at dksX1_isPost_0 9 rfl rfl)
theorem dX1_isPost_10 : decode cX1_isPost 10 = .ok (.isub, 1) := dk_100 (dk_at dksX1_isPost_0 10 rfl rfl)
theorem dX1_isPost_11 : decode cX1_isPost 11 = .ok (.invokestatic 63, 3) := dk_184 0 63 (dk_at dksX1_isPost_0 11 rfl rfl)
theorem dX1_isPost_14 : decode cX1_isPost 14 = .ok (.ireturn, 1) := dk_172 (dk_at dksX1_isPost_0 14 rfl rfl)
abbrev cX1_isIn : ByteArray := prog_1_method_5_code
def yX1_isIn : MethodName := ⟨RX1, "isIn", "(III)Z"⟩
def dkwX1_isIn_0 : List UInt8 := [26, 27, 161, 0, 12, 26, 28, 163, 0, 7, 4, 167, 0, 4, 3, 172]
abbrev dktX1_isIn_0 : List UInt8 := dkwX1_isIn_0 ++ []
theorem dksX1_isIn_0 : cX1_isIn.data.toList.drop 0 = dktX1_isIn_0 := by decide +kernel
theorem dX1_isIn_0 : decode cX1_isIn 0 = .ok (.iload_n 0, 1) := dk_26 (dk_at dksX1_isIn_0 0 rfl rfl)
theorem dX1_isIn_1 : decode cX1_isIn 1 = .ok (.iload_n 1, 1) := dk_27 (dk_at dksX1_isIn_0 1 rfl rfl)
theorem dX1_isIn_2 : decode cX1_isIn 2 = .ok (.if_icmp .lt 12, 3) := dk_161 0 12 (dk_at dksX1_isIn_0 2 rfl rfl)
theorem dX1_isIn_5 : decode cX1_isIn 5 = .ok (.iload_n 0, 1) := dk_26 (dk_at dksX1_isIn_0 5 rfl rfl)
theorem dX1_isIn_6 : decode cX1_isIn 6 = .ok (.iload_n 2, 1) := dk_28 (dk_at dksX1_isIn_0 6 rfl rfl)
theorem dX1_isIn_7 : decode cX1_isIn 7 = .ok (.if_icmp .gt 7, 3) := dk_163 0 7 (dk_at dksX1_isIn_0 7 rfl rfl)
theorem dX1_isIn_10 : decode cX1_isIn 10 = .ok (.iconst 1, 1) := dk_4 (dk_at dksX1_isIn_0 10 rfl rfl)
theorem dX1_isIn_11 : decode cX1_isIn 11 = .ok (.goto 4, 3) := dk_167 0 4 (dk_at dksX1_isIn_0 11 rfl rfl)
theorem dX1_isIn_14 : decode cX1_isIn 14 = .ok (.iconst 0, 1) := dk_3 (dk_at dksX1_isIn_0 14 rfl rfl)
theorem dX1_isIn_15 : decode cX1_isIn 15 = .ok (.ireturn, 1) := dk_172 (dk_at dksX1_isIn_0 15 rfl rfl)
abbrev cX1_isSlot : ByteArray := prog_1_method_9_code
def yX1_isSlot : MethodName := ⟨RX1, "isSlot", "(I)Z"⟩
def dkwX1_isSlot_0 : List UInt8 := [26, 3, 16, 47, 184, 0, 63, 172]
abbrev dktX1_isSlot_0 : List UInt8 := dkwX1_isSlot_0 ++ []
theorem dksX1_isSlot_0 : cX1_isSlot.data.toList.drop 0 = dktX1_isSlot_0 := by decide +kernel
theorem dX1_isSlot_0 : decode cX1_isSlot 0 = .ok (.iload_n 0, 1) := dk_26 (dk_at dksX1_isSlot_0 0 rfl rfl)
theorem dX1_isSlot_1 : decode cX1_isSlot 1 = .ok (.iconst 0, 1) := dk_3 (dk_at dksX1_isSlot_0 1 rfl rfl)
theorem dX1_isSlot_2 : decode cX1_isSlot 2 = .ok (.bipush 47, 2) := dk_16 47 (dk_at dksX1_isSlot_0 2 rfl rfl)
theorem dX1_isSlot_4 : decode cX1_isSlot 4 = .ok (.invokestatic 63, 3) := dk_184 0 63 (dk_at dksX1_isSlot_0 4 rfl rfl)
theorem dX1_isSlot_7 : decode cX1_isSlot 7 = .ok (.ireturn, 1) := dk_172 (dk_at dksX1_isSlot_0 7 rfl rfl)
abbrev cX1_why : ByteArray := prog_1_method_20_code
def yX1_why : MethodName := ⟨RX1, "why", "(II)I"⟩
def dkwX1_why_1 : List UInt8 := [2, 172]
abbrev dktX1_why_1 : List UInt8 := dkwX1_why_1 ++ []
def dkwX1_why_0 : List UInt8 := [42, 27, 182, 0, 165, 153, 0, 19, 28, 184, 0, 172, 153, 0, 12, 42, 27, 28, 182, 0, 128, 167, 0, 4]
abbrev dktX1_why_0 : List UInt8 := dkwX1_why_0 ++ dktX1_why_1
theorem dksX1_why_0 : cX1_why.data.toList.drop 0 = dktX1_why_0 := by decide +kernel
theorem dksX1_why_1 : cX1_why.data.toList.drop 24 = dktX1_why_1 := dk_seg dksX1_why_0 24 rfl rfl
theorem dX1_why_0 : decode cX1_why 0 = .ok (.aload_n 0, 1) := dk_42 (dk_at dksX1_why_0 0 rfl rfl)
theorem dX1_why_1 : decode cX1_why 1 = .ok (.iload_n 1, 1) := dk_27 (dk_at dksX1_why_0 1 rfl rfl)
theorem dX1_why_2 : decode cX1_why 2 = .ok (.invokevirtual 165, 3) := dk_182 0 165 (dk_at dksX1_why_0 2 rfl rfl)
theorem dX1_why_5 : decode cX1_why 5 = .ok (.ifCond .eq 19, 3) := dk_153 0 19 (dk_at dksX1_why_0 5 rfl rfl)
theorem dX1_why_8 : decode cX1_why 8 = .ok (.iload_n 2, 1) := dk_28 (dk_at dksX1_why_0 8 rfl rfl)
theorem dX1_why_9 : decode cX1_why 9 = .ok (.invokestatic 172, 3) := dk_184 0 172 (dk_at dksX1_why_0 9 rfl rfl)
theorem dX1_why_12 : decode cX1_why 12 = .ok (.ifCond .eq 12, 3) := dk_153 0 12 (dk_at dksX1_why_0 12 rfl rfl)
theorem dX1_why_15 : decode cX1_why 15 = .ok (.aload_n 0, 1) := dk_42 (dk_at dksX1_why_0 15 rfl rfl)
theorem dX1_why_16 : decode cX1_why 16 = .ok (.iload_n 1, 1) := dk_27 (dk_at dksX1_why_0 16 rfl rfl)
theorem dX1_why_17 : decode cX1_why 17 = .ok (.iload_n 2, 1) := dk_28 (dk_at dksX1_why_0 17 rfl rfl)
theorem dX1_why_18 : decode cX1_why 18 = .ok (.invokevirtual 128, 3) := dk_182 0 128 (dk_at dksX1_why_0 18 rfl rfl)
theorem dX1_why_21 : decode cX1_why 21 = .ok (.goto 4, 3) := dk_167 0 4 (dk_at dksX1_why_0 21 rfl rfl)
theorem dX1_why_24 : decode cX1_why 24 = .ok (.iconst (-1), 1) := dk_2 (dk_at dksX1_why_1 0 rfl rfl)
theorem dX1_why_25 : decode cX1_why 25 = .ok (.ireturn, 1) := dk_172 (dk_at dksX1_why_1 1 rfl rfl)
abbrev cX1_isPause : ByteArray := prog_1_method_8_code
def yX1_isPause : MethodName := ⟨RX1, "isPause", "(I)Z"⟩
def dkwX1_isPause_0 : List UInt8 := [27, 3, 42, 180, 0, 16, 180, 0, 67, 4, 100, 184, 0, 63, 172]
abbrev dktX1_isPause_0 : List UInt8 := dkwX1_isPause_0 ++ []
theorem dksX1_isPause_0 : cX1_isPause.data.toList.drop 0 = dktX1_isPause_0 := by decide +kernel
theorem dX1_isPause_0 : decode cX1_isPause 0 = .ok (.iload_n 1, 1) := dk_27 (dk_at dksX1_isPause_0 0 rfl rfl)
theorem dX1_isPause_1 : decode cX1_isPause 1 = .ok (.iconst 0, 1) := dk_3 (dk_at dksX1_isPause_0 1 rfl rfl)
theorem dX1_isPause_2 : decode cX1_isPause 2 = .ok (.aload_n 0, 1) := dk_42 (dk_at dksX1_isPause_0 2 rfl rfl)
theorem dX1_isPause_3 : decode cX1_isPause 3 = .ok (.getfield 16, 3) := dk_180 0 16 (dk_at dksX1_isPause_0 3 rfl rfl)
theorem dX1_isPause_6 : decode cX1_isPause 6 = .ok (.getfield 67, 3) := dk_180 0 67 (dk_at dksX1_isPause_0 6 rfl rfl)
theorem dX1_isPause_9 : decode cX1_isPause 9 = .ok (.iconst 1, 1) := dk_4 (dk_at dksX1_isPause_0 9 rfl rfl)
theorem dX1_isPause_10 : decode cX1_isPause 10 = .ok (.isub, 1) := dk_100 (dk_at dksX1_isPause_0 10 rfl rfl)
theorem dX1_isPause_11 : decode cX1_isPause 11 = .ok (.invokestatic 63, 3) := dk_184 0 63 (dk_at dksX1_isPause_0 11 rfl rfl)
theorem dX1_isPause_14 : decode cX1_isPause 14 = .ok (.ireturn, 1) := dk_172 (dk_at dksX1_isPause_0 14 rfl rfl)
abbrev cX1_whyNot : ByteArray := prog_1_method_13_code
def yX1_whyNot : MethodName := ⟨RX1, "whyNot", "(II)I"⟩
def dkwX1_whyNot_4 : List UInt8 := [180, 0, 24, 21, 4, 46, 182, 0, 124, 153, 0, 5, 5, 172, 132, 4, 1, 167, 255, 177, 3, 172]
abbrev dktX1_whyNot_4 : List UInt8 := dkwX1_whyNot_4 ++ []
def dkwX1_whyNot_3 : List UInt8 := [180, 0, 106, 45, 180, 0, 106, 160, 0, 30, 45, 28, 42, 180, 0, 16, 180, 0, 98, 21, 4, 50, 42]
abbrev dktX1_whyNot_3 : List UInt8 := dkwX1_whyNot_3 ++ dktX1_whyNot_4
def dkwX1_whyNot_2 : List UInt8 := [159, 0, 61, 42, 180, 0, 24, 21, 4, 46, 2, 159, 0, 50, 42, 180, 0, 16, 180, 0, 98, 21, 4, 50]
abbrev dktX1_whyNot_2 : List UInt8 := dkwX1_whyNot_2 ++ dktX1_whyNot_3
def dkwX1_whyNot_1 : List UInt8 := [154, 0, 5, 4, 172, 3, 54, 4, 21, 4, 42, 180, 0, 16, 180, 0, 67, 162, 0, 73, 21, 4, 27]
abbrev dktX1_whyNot_1 : List UInt8 := dkwX1_whyNot_1 ++ dktX1_whyNot_2
def dkwX1_whyNot_0 : List UInt8 := [42, 180, 0, 16, 180, 0, 98, 27, 50, 78, 28, 45, 180, 0, 118, 45, 180, 0, 121, 184, 0, 63]
abbrev dktX1_whyNot_0 : List UInt8 := dkwX1_whyNot_0 ++ dktX1_whyNot_1
theorem dksX1_whyNot_0 : cX1_whyNot.data.toList.drop 0 = dktX1_whyNot_0 := by decide +kernel
theorem dksX1_whyNot_1 : cX1_whyNot.data.toList.drop 22 = dktX1_whyNot_1 := dk_seg dksX1_whyNot_0 22 rfl rfl
theorem dksX1_whyNot_2 : cX1_whyNot.data.toList.drop 45 = dktX1_whyNot_2 := dk_seg dksX1_whyNot_1 23 rfl rfl
theorem dksX1_whyNot_3 : cX1_whyNot.data.toList.drop 69 = dktX1_whyNot_3 := dk_seg dksX1_whyNot_2 24 rfl rfl
theorem dksX1_whyNot_4 : cX1_whyNot.data.toList.drop 92 = dktX1_whyNot_4 := dk_seg dksX1_whyNot_3 23 rfl rfl
theorem dX1_whyNot_0 : decode cX1_whyNot 0 = .ok (.aload_n 0, 1) := dk_42 (dk_at dksX1_whyNot_0 0 rfl rfl)
theorem dX1_whyNot_1 : decode cX1_whyNot 1 = .ok (.getfield 16, 3) := dk_180 0 16 (dk_at dksX1_whyNot_0 1 rfl rfl)
theorem dX1_whyNot_4 : decode cX1_whyNot 4 = .ok (.getfield 98, 3) := dk_180 0 98 (dk_at dksX1_whyNot_0 4 rfl rfl)
theorem dX1_whyNot_7 : decode cX1_whyNot 7 = .ok (.iload_n 1, 1) := dk_27 (dk_at dksX1_whyNot_0 7 rfl rfl)
theorem dX1_whyNot_8 : decode cX1_whyNot 8 = .ok (.aaload, 1) := dk_50 (dk_at dksX1_whyNot_0 8 rfl rfl)
theorem dX1_whyNot_9 : decode cX1_whyNot 9 = .ok (.astore_n 3, 1) := dk_78 (dk_at dksX1_whyNot_0 9 rfl rfl)
theorem dX1_whyNot_10 : decode cX1_whyNot 10 = .ok (.iload_n 2, 1) := dk_28 (dk_at dksX1_whyNot_0 10 rfl rfl)
theorem dX1_whyNot_11 : decode cX1_whyNot 11 = .ok (.aload_n 3, 1) := dk_45 (dk_at dksX1_whyNot_0 11 rfl rfl)
theorem dX1_whyNot_12 : decode cX1_whyNot 12 = .ok (.getfield 118, 3) := dk_180 0 118 (dk_at dksX1_whyNot_0 12 rfl rfl)
theorem dX1_whyNot_15 : decode cX1_whyNot 15 = .ok (.aload_n 3, 1) := dk_45 (dk_at dksX1_whyNot_0 15 rfl rfl)
theorem dX1_whyNot_16 : decode cX1_whyNot 16 = .ok (.getfield 121, 3) := dk_180 0 121 (dk_at dksX1_whyNot_0 16 rfl rfl)
theorem dX1_whyNot_19 : decode cX1_whyNot 19 = .ok (.invokestatic 63, 3) := dk_184 0 63 (dk_at dksX1_whyNot_0 19 rfl rfl)
theorem dX1_whyNot_22 : decode cX1_whyNot 22 = .ok (.ifCond .ne 5, 3) := dk_154 0 5 (dk_at dksX1_whyNot_1 0 rfl rfl)
theorem dX1_whyNot_25 : decode cX1_whyNot 25 = .ok (.iconst 1, 1) := dk_4 (dk_at dksX1_whyNot_1 3 rfl rfl)
theorem dX1_whyNot_26 : decode cX1_whyNot 26 = .ok (.ireturn, 1) := dk_172 (dk_at dksX1_whyNot_1 4 rfl rfl)
theorem dX1_whyNot_27 : decode cX1_whyNot 27 = .ok (.iconst 0, 1) := dk_3 (dk_at dksX1_whyNot_1 5 rfl rfl)
theorem dX1_whyNot_28 : decode cX1_whyNot 28 = .ok (.istore 4, 2) := dk_54 4 (dk_at dksX1_whyNot_1 6 rfl rfl)
theorem dX1_whyNot_30 : decode cX1_whyNot 30 = .ok (.iload 4, 2) := dk_21 4 (dk_at dksX1_whyNot_1 8 rfl rfl)
theorem dX1_whyNot_32 : decode cX1_whyNot 32 = .ok (.aload_n 0, 1) := dk_42 (dk_at dksX1_whyNot_1 10 rfl rfl)
theorem dX1_whyNot_33 : decode cX1_whyNot 33 = .ok (.getfield 16, 3) := dk_180 0 16 (dk_at dksX1_whyNot_1 11 rfl rfl)
theorem dX1_whyNot_36 : decode cX1_whyNot 36 = .ok (.getfield 67, 3) := dk_180 0 67 (dk_at dksX1_whyNot_1 14 rfl rfl)
theorem dX1_whyNot_39 : decode cX1_whyNot 39 = .ok (.if_icmp .ge 73, 3) := dk_162 0 73 (dk_at dksX1_whyNot_1 17 rfl rfl)
theorem dX1_whyNot_42 : decode cX1_whyNot 42 = .ok (.iload 4, 2) := dk_21 4 (dk_at dksX1_whyNot_1 20 rfl rfl)
theorem dX1_whyNot_44 : decode cX1_whyNot 44 = .ok (.iload_n 1, 1) := dk_27 (dk_at dksX1_whyNot_1 22 rfl rfl)
theorem dX1_whyNot_45 : decode cX1_whyNot 45 = .ok (.if_icmp .eq 61, 3) := dk_159 0 61 (dk_at dksX1_whyNot_2 0 rfl rfl)
theorem dX1_whyNot_48 : decode cX1_whyNot 48 = .ok (.aload_n 0, 1) := dk_42 (dk_at dksX1_whyNot_2 3 rfl rfl)
theorem dX1_whyNot_49 : decode cX1_whyNot 49 = .ok (.getfield 24, 3) := dk_180 0 24 (dk_at dksX1_whyNot_2 4 rfl rfl)
theorem dX1_whyNot_52 : decode cX1_whyNot 52 = .ok (.iload 4, 2) := dk_21 4 (dk_at dksX1_whyNot_2 7 rfl rfl)
theorem dX1_whyNot_54 : decode cX1_whyNot 54 = .ok (.iaload, 1) := dk_46 (dk_at dksX1_whyNot_2 9 rfl rfl)
theorem dX1_whyNot_55 : decode cX1_whyNot 55 = .ok (.iconst (-1), 1) := dk_2 (dk_at dksX1_whyNot_2 10 rfl rfl)
theorem dX1_whyNot_56 : decode cX1_whyNot 56 = .ok (.if_icmp .eq 50, 3) := dk_159 0 50 (dk_at dksX1_whyNot_2 11 rfl rfl)
theorem dX1_whyNot_59 : decode cX1_whyNot 59 = .ok (.aload_n 0, 1) := dk_42 (dk_at dksX1_whyNot_2 14 rfl rfl)
theorem dX1_whyNot_60 : decode cX1_whyNot 60 = .ok (.getfield 16, 3) := dk_180 0 16 (dk_at dksX1_whyNot_2 15 rfl rfl)
theorem dX1_whyNot_63 : decode cX1_whyNot 63 = .ok (.getfield 98, 3) := dk_180 0 98 (dk_at dksX1_whyNot_2 18 rfl rfl)
theorem dX1_whyNot_66 : decode cX1_whyNot 66 = .ok (.iload 4, 2) := dk_21 4 (dk_at dksX1_whyNot_2 21 rfl rfl)
theorem dX1_whyNot_68 : decode cX1_whyNot 68 = .ok (.aaload, 1) := dk_50 (dk_at dksX1_whyNot_2 23 rfl rfl)
theorem dX1_whyNot_69 : decode cX1_whyNot 69 = .ok (.getfield 106, 3) := dk_180 0 106 (dk_at dksX1_whyNot_3 0 rfl rfl)
theorem dX1_whyNot_72 : decode cX1_whyNot 72 = .ok (.aload_n 3, 1) := dk_45 (dk_at dksX1_whyNot_3 3 rfl rfl)
theorem dX1_whyNot_73 : decode cX1_whyNot 73 = .ok (.getfield 106, 3) := dk_180 0 106 (dk_at dksX1_whyNot_3 4 rfl rfl)
theorem dX1_whyNot_76 : decode cX1_whyNot 76 = .ok (.if_icmp .ne 30, 3) := dk_160 0 30 (dk_at dksX1_whyNot_3 7 rfl rfl)
theorem dX1_whyNot_79 : decode cX1_whyNot 79 = .ok (.aload_n 3, 1) := dk_45 (dk_at dksX1_whyNot_3 10 rfl rfl)
theorem dX1_whyNot_80 : decode cX1_whyNot 80 = .ok (.iload_n 2, 1) := dk_28 (dk_at dksX1_whyNot_3 11 rfl rfl)
theorem dX1_whyNot_81 : decode cX1_whyNot 81 = .ok (.aload_n 0, 1) := dk_42 (dk_at dksX1_whyNot_3 12 rfl rfl)
theorem dX1_whyNot_82 : decode cX1_whyNot 82 = .ok (.getfield 16, 3) := dk_180 0 16 (dk_at dksX1_whyNot_3 13 rfl rfl)
theorem dX1_whyNot_85 : decode cX1_whyNot 85 = .ok (.getfield 98, 3) := dk_180 0 98 (dk_at dksX1_whyNot_3 16 rfl rfl)
theorem dX1_whyNot_88 : decode cX1_whyNot 88 = .ok (.iload 4, 2) := dk_21 4 (dk_at dksX1_whyNot_3 19 rfl rfl)
theorem dX1_whyNot_90 : decode cX1_whyNot 90 = .ok (.aaload, 1) := dk_50 (dk_at dksX1_whyNot_3 21 rfl rfl)
theorem dX1_whyNot_91 : decode cX1_whyNot 91 = .ok (.aload_n 0, 1) := dk_42 (dk_at dksX1_whyNot_3 22 rfl rfl)
theorem dX1_whyNot_92 : decode cX1_whyNot 92 = .ok (.getfield 24, 3) := dk_180 0 24 (dk_at dksX1_whyNot_4 0 rfl rfl)
theorem dX1_whyNot_95 : decode cX1_whyNot 95 = .ok (.iload 4, 2) := dk_21 4 (dk_at dksX1_whyNot_4 3 rfl rfl)
theorem dX1_whyNot_97 : decode cX1_whyNot 97 = .ok (.iaload, 1) := dk_46 (dk_at dksX1_whyNot_4 5 rfl rfl)
theorem dX1_whyNot_98 : decode cX1_whyNot 98 = .ok (.invokevirtual 124, 3) := dk_182 0 124 (dk_at dksX1_whyNot_4 6 rfl rfl)
theorem dX1_whyNot_101 : decode cX1_whyNot 101 = .ok (.ifCond .eq 5, 3) := dk_153 0 5 (dk_at dksX1_whyNot_4 9 rfl rfl)
theorem dX1_whyNot_104 : decode cX1_whyNot 104 = .ok (.iconst 2, 1) := dk_5 (dk_at dksX1_whyNot_4 12 rfl rfl)
theorem dX1_whyNot_105 : decode cX1_whyNot 105 = .ok (.ireturn, 1) := dk_172 (dk_at dksX1_whyNot_4 13 rfl rfl)
theorem dX1_whyNot_106 : decode cX1_whyNot 106 = .ok (.iinc 4 1, 3) := dk_132 4 1 (dk_at dksX1_whyNot_4 14 rfl rfl)
theorem dX1_whyNot_109 : decode cX1_whyNot 109 = .ok (.goto (-79), 3) := dk_167 255 177 (dk_at dksX1_whyNot_4 17 rfl rfl)
theorem dX1_whyNot_112 : decode cX1_whyNot 112 = .ok (.iconst 0, 1) := dk_3 (dk_at dksX1_whyNot_4 20 rfl rfl)
theorem dX1_whyNot_113 : decode cX1_whyNot 113 = .ok (.ireturn, 1) := dk_172 (dk_at dksX1_whyNot_4 21 rfl rfl)
abbrev cX1_would : ByteArray := prog_1_method_21_code
def yX1_would : MethodName := ⟨RX1, "would", "(II)I"⟩
def dkwX1_would_2 : List UInt8 := [58, 5, 25, 4, 25, 5, 182, 0, 186, 25, 4, 191]
abbrev dktX1_would_2 : List UInt8 := dkwX1_would_2 ++ []
def dkwX1_would_1 : List UInt8 := [78, 45, 28, 182, 0, 131, 54, 4, 45, 182, 0, 181, 21, 4, 172, 58, 4, 45, 182, 0, 181, 167, 0, 12]
abbrev dktX1_would_1 : List UInt8 := dkwX1_would_1 ++ dktX1_would_2
def dkwX1_would_0 : List UInt8 := [42, 27, 28, 182, 0, 175, 153, 0, 5, 2, 172, 42, 182, 0, 143, 187, 0, 132, 89, 42, 27, 183, 0, 178]
abbrev dktX1_would_0 : List UInt8 := dkwX1_would_0 ++ dktX1_would_1
theorem dksX1_would_0 : cX1_would.data.toList.drop 0 = dktX1_would_0 := by decide +kernel
theorem dksX1_would_1 : cX1_would.data.toList.drop 24 = dktX1_would_1 := dk_seg dksX1_would_0 24 rfl rfl
theorem dksX1_would_2 : cX1_would.data.toList.drop 48 = dktX1_would_2 := dk_seg dksX1_would_1 24 rfl rfl
theorem dX1_would_0 : decode cX1_would 0 = .ok (.aload_n 0, 1) := dk_42 (dk_at dksX1_would_0 0 rfl rfl)
theorem dX1_would_1 : decode cX1_would 1 = .ok (.iload_n 1, 1) := dk_27 (dk_at dksX1_would_0 1 rfl rfl)
theorem dX1_would_2 : decode cX1_would 2 = .ok (.iload_n 2, 1) := dk_28 (dk_at dksX1_would_0 2 rfl rfl)
theorem dX1_would_3 : decode cX1_would 3 = .ok (.invokevirtual 175, 3) := dk_182 0 175 (dk_at dksX1_would_0 3 rfl rfl)
theorem dX1_would_6 : decode cX1_would 6 = .ok (.ifCond .eq 5, 3) := dk_153 0 5 (dk_at dksX1_would_0 6 rfl rfl)
theorem dX1_would_9 : decode cX1_would 9 = .ok (.iconst (-1), 1) := dk_2 (dk_at dksX1_would_0 9 rfl rfl)
theorem dX1_would_10 : decode cX1_would 10 = .ok (.ireturn, 1) := dk_172 (dk_at dksX1_would_0 10 rfl rfl)
theorem dX1_would_11 : decode cX1_would 11 = .ok (.aload_n 0, 1) := dk_42 (dk_at dksX1_would_0 11 rfl rfl)
theorem dX1_would_12 : decode cX1_would 12 = .ok (.invokevirtual 143, 3) := dk_182 0 143 (dk_at dksX1_would_0 12 rfl rfl)
theorem dX1_would_15 : decode cX1_would 15 = .ok (.new 132, 3) := dk_187 0 132 (dk_at dksX1_would_0 15 rfl rfl)
theorem dX1_would_18 : decode cX1_would 18 = .ok (.dup, 1) := dk_89 (dk_at dksX1_would_0 18 rfl rfl)
theorem dX1_would_19 : decode cX1_would 19 = .ok (.aload_n 0, 1) := dk_42 (dk_at dksX1_would_0 19 rfl rfl)
theorem dX1_would_20 : decode cX1_would 20 = .ok (.iload_n 1, 1) := dk_27 (dk_at dksX1_would_0 20 rfl rfl)
theorem dX1_would_21 : decode cX1_would 21 = .ok (.invokespecial 178, 3) := dk_183 0 178 (dk_at dksX1_would_0 21 rfl rfl)
theorem dX1_would_24 : decode cX1_would 24 = .ok (.astore_n 3, 1) := dk_78 (dk_at dksX1_would_1 0 rfl rfl)
theorem dX1_would_25 : decode cX1_would 25 = .ok (.aload_n 3, 1) := dk_45 (dk_at dksX1_would_1 1 rfl rfl)
theorem dX1_would_26 : decode cX1_would 26 = .ok (.iload_n 2, 1) := dk_28 (dk_at dksX1_would_1 2 rfl rfl)
theorem dX1_would_27 : decode cX1_would 27 = .ok (.invokevirtual 131, 3) := dk_182 0 131 (dk_at dksX1_would_1 3 rfl rfl)
theorem dX1_would_30 : decode cX1_would 30 = .ok (.istore 4, 2) := dk_54 4 (dk_at dksX1_would_1 6 rfl rfl)
theorem dX1_would_32 : decode cX1_would 32 = .ok (.aload_n 3, 1) := dk_45 (dk_at dksX1_would_1 8 rfl rfl)
theorem dX1_would_33 : decode cX1_would 33 = .ok (.invokevirtual 181, 3) := dk_182 0 181 (dk_at dksX1_would_1 9 rfl rfl)
theorem dX1_would_36 : decode cX1_would 36 = .ok (.iload 4, 2) := dk_21 4 (dk_at dksX1_would_1 12 rfl rfl)
theorem dX1_would_38 : decode cX1_would 38 = .ok (.ireturn, 1) := dk_172 (dk_at dksX1_would_1 14 rfl rfl)
theorem dX1_would_39 : decode cX1_would 39 = .ok (.astore 4, 2) := dk_58 4 (dk_at dksX1_would_1 15 rfl rfl)
theorem dX1_would_41 : decode cX1_would 41 = .ok (.aload_n 3, 1) := dk_45 (dk_at dksX1_would_1 17 rfl rfl)
theorem dX1_would_42 : decode cX1_would 42 = .ok (.invokevirtual 181, 3) := dk_182 0 181 (dk_at dksX1_would_1 18 rfl rfl)
theorem dX1_would_45 : decode cX1_would 45 = .ok (.goto 12, 3) := dk_167 0 12 (dk_at dksX1_would_1 21 rfl rfl)
theorem dX1_would_48 : decode cX1_would 48 = .ok (.astore 5, 2) := dk_58 5 (dk_at dksX1_would_2 0 rfl rfl)
theorem dX1_would_50 : decode cX1_would 50 = .ok (.aload 4, 2) := dk_25 4 (dk_at dksX1_would_2 2 rfl rfl)
theorem dX1_would_52 : decode cX1_would 52 = .ok (.aload 5, 2) := dk_25 5 (dk_at dksX1_would_2 4 rfl rfl)
theorem dX1_would_54 : decode cX1_would 54 = .ok (.invokevirtual 186, 3) := dk_182 0 186 (dk_at dksX1_would_2 6 rfl rfl)
theorem dX1_would_57 : decode cX1_would 57 = .ok (.aload 4, 2) := dk_25 4 (dk_at dksX1_would_2 9 rfl rfl)
theorem dX1_would_59 : decode cX1_would 59 = .ok (.athrow, 1) := dk_191 (dk_at dksX1_would_2 11 rfl rfl)
abbrev cX1_best : ByteArray := prog_1_method_23_code
def yX1_best : MethodName := ⟨RX1, "best", "(I)I"⟩
def dkwX1_best_1 : List UInt8 := [160, 0, 8, 16, 254, 167, 0, 4, 28, 172]
abbrev dktX1_best_1 : List UInt8 := dkwX1_best_1 ++ []
def dkwX1_best_0 : List UInt8 := [42, 27, 182, 0, 165, 154, 0, 5, 2, 172, 42, 182, 0, 143, 42, 27, 182, 0, 194, 61, 28, 2]
abbrev dktX1_best_0 : List UInt8 := dkwX1_best_0 ++ dktX1_best_1
theorem dksX1_best_0 : cX1_best.data.toList.drop 0 = dktX1_best_0 := by decide +kernel
theorem dksX1_best_1 : cX1_best.data.toList.drop 22 = dktX1_best_1 := dk_seg dksX1_best_0 22 rfl rfl
theorem dX1_best_0 : decode cX1_best 0 = .ok (.aload_n 0, 1) := dk_42 (dk_at dksX1_best_0 0 rfl rfl)
theorem dX1_best_1 : decode cX1_best 1 = .ok (.iload_n 1, 1) := dk_27 (dk_at dksX1_best_0 1 rfl rfl)
theorem dX1_best_2 : decode cX1_best 2 = .ok (.invokevirtual 165, 3) := dk_182 0 165 (dk_at dksX1_best_0 2 rfl rfl)
theorem dX1_best_5 : decode cX1_best 5 = .ok (.ifCond .ne 5, 3) := dk_154 0 5 (dk_at dksX1_best_0 5 rfl rfl)
theorem dX1_best_8 : decode cX1_best 8 = .ok (.iconst (-1), 1) := dk_2 (dk_at dksX1_best_0 8 rfl rfl)
theorem dX1_best_9 : decode cX1_best 9 = .ok (.ireturn, 1) := dk_172 (dk_at dksX1_best_0 9 rfl rfl)
theorem dX1_best_10 : decode cX1_best 10 = .ok (.aload_n 0, 1) := dk_42 (dk_at dksX1_best_0 10 rfl rfl)
theorem dX1_best_11 : decode cX1_best 11 = .ok (.invokevirtual 143, 3) := dk_182 0 143 (dk_at dksX1_best_0 11 rfl rfl)
theorem dX1_best_14 : decode cX1_best 14 = .ok (.aload_n 0, 1) := dk_42 (dk_at dksX1_best_0 14 rfl rfl)
theorem dX1_best_15 : decode cX1_best 15 = .ok (.iload_n 1, 1) := dk_27 (dk_at dksX1_best_0 15 rfl rfl)
theorem dX1_best_16 : decode cX1_best 16 = .ok (.invokevirtual 194, 3) := dk_182 0 194 (dk_at dksX1_best_0 16 rfl rfl)
theorem dX1_best_19 : decode cX1_best 19 = .ok (.istore_n 2, 1) := dk_61 (dk_at dksX1_best_0 19 rfl rfl)
theorem dX1_best_20 : decode cX1_best 20 = .ok (.iload_n 2, 1) := dk_28 (dk_at dksX1_best_0 20 rfl rfl)
theorem dX1_best_21 : decode cX1_best 21 = .ok (.iconst (-1), 1) := dk_2 (dk_at dksX1_best_0 21 rfl rfl)
theorem dX1_best_22 : decode cX1_best 22 = .ok (.if_icmp .ne 8, 3) := dk_160 0 8 (dk_at dksX1_best_1 0 rfl rfl)
theorem dX1_best_25 : decode cX1_best 25 = .ok (.bipush (-2), 2) := dk_16 254 (dk_at dksX1_best_1 3 rfl rfl)
theorem dX1_best_27 : decode cX1_best 27 = .ok (.goto 4, 3) := dk_167 0 4 (dk_at dksX1_best_1 5 rfl rfl)
theorem dX1_best_30 : decode cX1_best 30 = .ok (.iload_n 2, 1) := dk_28 (dk_at dksX1_best_1 8 rfl rfl)
theorem dX1_best_31 : decode cX1_best 31 = .ok (.ireturn, 1) := dk_172 (dk_at dksX1_best_1 9 rfl rfl)
abbrev cX1_bestOf : ByteArray := prog_1_method_22_code
def yX1_bestOf : MethodName := ⟨RX1, "bestOf", "(I)I"⟩
def dkwX1_bestOf_1 : List UInt8 := [78, 44, 182, 0, 181, 167, 0, 11, 58, 4, 45, 25, 4, 182, 0, 186, 45, 191]
abbrev dktX1_bestOf_1 : List UInt8 := dkwX1_bestOf_1 ++ []
def dkwX1_bestOf_0 : List UInt8 := [187, 0, 132, 89, 42, 27, 183, 0, 178, 77, 42, 27, 2, 44, 182, 0, 190, 62, 44, 182, 0, 181, 29, 172]
abbrev dktX1_bestOf_0 : List UInt8 := dkwX1_bestOf_0 ++ dktX1_bestOf_1
theorem dksX1_bestOf_0 : cX1_bestOf.data.toList.drop 0 = dktX1_bestOf_0 := by decide +kernel
theorem dksX1_bestOf_1 : cX1_bestOf.data.toList.drop 24 = dktX1_bestOf_1 := dk_seg dksX1_bestOf_0 24 rfl rfl
theorem dX1_bestOf_0 : decode cX1_bestOf 0 = .ok (.new 132, 3) := dk_187 0 132 (dk_at dksX1_bestOf_0 0 rfl rfl)
theorem dX1_bestOf_3 : decode cX1_bestOf 3 = .ok (.dup, 1) := dk_89 (dk_at dksX1_bestOf_0 3 rfl rfl)
theorem dX1_bestOf_4 : decode cX1_bestOf 4 = .ok (.aload_n 0, 1) := dk_42 (dk_at dksX1_bestOf_0 4 rfl rfl)
theorem dX1_bestOf_5 : decode cX1_bestOf 5 = .ok (.iload_n 1, 1) := dk_27 (dk_at dksX1_bestOf_0 5 rfl rfl)
theorem dX1_bestOf_6 : decode cX1_bestOf 6 = .ok (.invokespecial 178, 3) := dk_183 0 178 (dk_at dksX1_bestOf_0 6 rfl rfl)
theorem dX1_bestOf_9 : decode cX1_bestOf 9 = .ok (.astore_n 2, 1) := dk_77 (dk_at dksX1_bestOf_0 9 rfl rfl)
theorem dX1_bestOf_10 : decode cX1_bestOf 10 = .ok (.aload_n 0, 1) := dk_42 (dk_at dksX1_bestOf_0 10 rfl rfl)
theorem dX1_bestOf_11 : decode cX1_bestOf 11 = .ok (.iload_n 1, 1) := dk_27 (dk_at dksX1_bestOf_0 11 rfl rfl)
theorem dX1_bestOf_12 : decode cX1_bestOf 12 = .ok (.iconst (-1), 1) := dk_2 (dk_at dksX1_bestOf_0 12 rfl rfl)
theorem dX1_bestOf_13 : decode cX1_bestOf 13 = .ok (.aload_n 2, 1) := dk_44 (dk_at dksX1_bestOf_0 13 rfl rfl)
theorem dX1_bestOf_14 : decode cX1_bestOf 14 = .ok (.invokevirtual 190, 3) := dk_182 0 190 (dk_at dksX1_bestOf_0 14 rfl rfl)
theorem dX1_bestOf_17 : decode cX1_bestOf 17 = .ok (.istore_n 3, 1) := dk_62 (dk_at dksX1_bestOf_0 17 rfl rfl)
theorem dX1_bestOf_18 : decode cX1_bestOf 18 = .ok (.aload_n 2, 1) := dk_44 (dk_at dksX1_bestOf_0 18 rfl rfl)
theorem dX1_bestOf_19 : decode cX1_bestOf 19 = .ok (.invokevirtual 181, 3) := dk_182 0 181 (dk_at dksX1_bestOf_0 19 rfl rfl)
theorem dX1_bestOf_22 : decode cX1_bestOf 22 = .ok (.iload_n 3, 1) := dk_29 (dk_at dksX1_bestOf_0 22 rfl rfl)
theorem dX1_bestOf_23 : decode cX1_bestOf 23 = .ok (.ireturn, 1) := dk_172 (dk_at dksX1_bestOf_0 23 rfl rfl)
theorem dX1_bestOf_24 : decode cX1_bestOf 24 = .ok (.astore_n 3, 1) := dk_78 (dk_at dksX1_bestOf_1 0 rfl rfl)
theorem dX1_bestOf_25 : decode cX1_bestOf 25 = .ok (.aload_n 2, 1) := dk_44 (dk_at dksX1_bestOf_1 1 rfl rfl)
theorem dX1_bestOf_26 : decode cX1_bestOf 26 = .ok (.invokevirtual 181, 3) := dk_182 0 181 (dk_at dksX1_bestOf_1 2 rfl rfl)
theorem dX1_bestOf_29 : decode cX1_bestOf 29 = .ok (.goto 11, 3) := dk_167 0 11 (dk_at dksX1_bestOf_1 5 rfl rfl)
theorem dX1_bestOf_32 : decode cX1_bestOf 32 = .ok (.astore 4, 2) := dk_58 4 (dk_at dksX1_bestOf_1 8 rfl rfl)
theorem dX1_bestOf_34 : decode cX1_bestOf 34 = .ok (.aload_n 3, 1) := dk_45 (dk_at dksX1_bestOf_1 10 rfl rfl)
theorem dX1_bestOf_35 : decode cX1_bestOf 35 = .ok (.aload 4, 2) := dk_25 4 (dk_at dksX1_bestOf_1 11 rfl rfl)
theorem dX1_bestOf_37 : decode cX1_bestOf 37 = .ok (.invokevirtual 186, 3) := dk_182 0 186 (dk_at dksX1_bestOf_1 13 rfl rfl)
theorem dX1_bestOf_40 : decode cX1_bestOf 40 = .ok (.aload_n 3, 1) := dk_45 (dk_at dksX1_bestOf_1 16 rfl rfl)
theorem dX1_bestOf_41 : decode cX1_bestOf 41 = .ok (.athrow, 1) := dk_191 (dk_at dksX1_bestOf_1 17 rfl rfl)
abbrev cX1_leastSlot : ByteArray := prog_1_method_14_code
def yX1_leastSlot : MethodName := ⟨RX1, "leastSlot", "(IILBreakSetter$Trial;)I"⟩
def dkwX1_leastSlot_3 : List UInt8 := [21, 5, 54, 4, 132, 5, 1, 167, 255, 195, 21, 4, 172]
abbrev dktX1_leastSlot_3 : List UInt8 := dkwX1_leastSlot_3 ++ []
def dkwX1_leastSlot_2 : List UInt8 := [154, 0, 28, 21, 4, 2, 159, 0, 18, 45, 21, 5, 182, 0, 131, 45, 21, 4, 182, 0, 131, 162, 0, 7]
abbrev dktX1_leastSlot_2 : List UInt8 := dkwX1_leastSlot_2 ++ dktX1_leastSlot_3
def dkwX1_leastSlot_1 : List UInt8 := [180, 0, 98, 27, 50, 180, 0, 121, 163, 0, 50, 21, 5, 28, 159, 0, 38, 42, 27, 21, 5, 182, 0, 128]
abbrev dktX1_leastSlot_1 : List UInt8 := dkwX1_leastSlot_1 ++ dktX1_leastSlot_2
def dkwX1_leastSlot_0 : List UInt8 := [2, 54, 4, 42, 180, 0, 16, 180, 0, 98, 27, 50, 180, 0, 118, 54, 5, 21, 5, 42, 180, 0, 16]
abbrev dktX1_leastSlot_0 : List UInt8 := dkwX1_leastSlot_0 ++ dktX1_leastSlot_1
theorem dksX1_leastSlot_0 : cX1_leastSlot.data.toList.drop 0 = dktX1_leastSlot_0 := by decide +kernel
theorem dksX1_leastSlot_1 : cX1_leastSlot.data.toList.drop 23 = dktX1_leastSlot_1 := dk_seg dksX1_leastSlot_0 23 rfl rfl
theorem dksX1_leastSlot_2 : cX1_leastSlot.data.toList.drop 47 = dktX1_leastSlot_2 := dk_seg dksX1_leastSlot_1 24 rfl rfl
theorem dksX1_leastSlot_3 : cX1_leastSlot.data.toList.drop 71 = dktX1_leastSlot_3 := dk_seg dksX1_leastSlot_2 24 rfl rfl
theorem dX1_leastSlot_0 : decode cX1_leastSlot 0 = .ok (.iconst (-1), 1) := dk_2 (dk_at dksX1_leastSlot_0 0 rfl rfl)
theorem dX1_leastSlot_1 : decode cX1_leastSlot 1 = .ok (.istore 4, 2) := dk_54 4 (dk_at dksX1_leastSlot_0 1 rfl rfl)
theorem dX1_leastSlot_3 : decode cX1_leastSlot 3 = .ok (.aload_n 0, 1) := dk_42 (dk_at dksX1_leastSlot_0 3 rfl rfl)
theorem dX1_leastSlot_4 : decode cX1_leastSlot 4 = .ok (.getfield 16, 3) := dk_180 0 16 (dk_at dksX1_leastSlot_0 4 rfl rfl)
theorem dX1_leastSlot_7 : decode cX1_leastSlot 7 = .ok (.getfield 98, 3) := dk_180 0 98 (dk_at dksX1_leastSlot_0 7 rfl rfl)
theorem dX1_leastSlot_10 : decode cX1_leastSlot 10 = .ok (.iload_n 1, 1) := dk_27 (dk_at dksX1_leastSlot_0 10 rfl rfl)
theorem dX1_leastSlot_11 : decode cX1_leastSlot 11 = .ok (.aaload, 1) := dk_50 (dk_at dksX1_leastSlot_0 11 rfl rfl)
theorem dX1_leastSlot_12 : decode cX1_leastSlot 12 = .ok (.getfield 118, 3) := dk_180 0 118 (dk_at dksX1_leastSlot_0 12 rfl rfl)
theorem dX1_leastSlot_15 : decode cX1_leastSlot 15 = .ok (.istore 5, 2) := dk_54 5 (dk_at dksX1_leastSlot_0 15 rfl rfl)
theorem dX1_leastSlot_17 : decode cX1_leastSlot 17 = .ok (.iload 5, 2) := dk_21 5 (dk_at dksX1_leastSlot_0 17 rfl rfl)
theorem dX1_leastSlot_19 : decode cX1_leastSlot 19 = .ok (.aload_n 0, 1) := dk_42 (dk_at dksX1_leastSlot_0 19 rfl rfl)
theorem dX1_leastSlot_20 : decode cX1_leastSlot 20 = .ok (.getfield 16, 3) := dk_180 0 16 (dk_at dksX1_leastSlot_0 20 rfl rfl)
theorem dX1_leastSlot_23 : decode cX1_leastSlot 23 = .ok (.getfield 98, 3) := dk_180 0 98 (dk_at dksX1_leastSlot_1 0 rfl rfl)
theorem dX1_leastSlot_26 : decode cX1_leastSlot 26 = .ok (.iload_n 1, 1) := dk_27 (dk_at dksX1_leastSlot_1 3 rfl rfl)
theorem dX1_leastSlot_27 : decode cX1_leastSlot 27 = .ok (.aaload, 1) := dk_50 (dk_at dksX1_leastSlot_1 4 rfl rfl)
theorem dX1_leastSlot_28 : decode cX1_leastSlot 28 = .ok (.getfield 121, 3) := dk_180 0 121 (dk_at dksX1_leastSlot_1 5 rfl rfl)
theorem dX1_leastSlot_31 : decode cX1_leastSlot 31 = .ok (.if_icmp .gt 50, 3) := dk_163 0 50 (dk_at dksX1_leastSlot_1 8 rfl rfl)
theorem dX1_leastSlot_34 : decode cX1_leastSlot 34 = .ok (.iload 5, 2) := dk_21 5 (dk_at dksX1_leastSlot_1 11 rfl rfl)
theorem dX1_leastSlot_36 : decode cX1_leastSlot 36 = .ok (.iload_n 2, 1) := dk_28 (dk_at dksX1_leastSlot_1 13 rfl rfl)
theorem dX1_leastSlot_37 : decode cX1_leastSlot 37 = .ok (.if_icmp .eq 38, 3) := dk_159 0 38 (dk_at dksX1_leastSlot_1 14 rfl rfl)
theorem dX1_leastSlot_40 : decode cX1_leastSlot 40 = .ok (.aload_n 0, 1) := dk_42 (dk_at dksX1_leastSlot_1 17 rfl rfl)
theorem dX1_leastSlot_41 : decode cX1_leastSlot 41 = .ok (.iload_n 1, 1) := dk_27 (dk_at dksX1_leastSlot_1 18 rfl rfl)
theorem dX1_leastSlot_42 : decode cX1_leastSlot 42 = .ok (.iload 5, 2) := dk_21 5 (dk_at dksX1_leastSlot_1 19 rfl rfl)
theorem dX1_leastSlot_44 : decode cX1_leastSlot 44 = .ok (.invokevirtual 128, 3) := dk_182 0 128 (dk_at dksX1_leastSlot_1 21 rfl rfl)
theorem dX1_leastSlot_47 : decode cX1_leastSlot 47 = .ok (.ifCond .ne 28, 3) := dk_154 0 28 (dk_at dksX1_leastSlot_2 0 rfl rfl)
theorem dX1_leastSlot_50 : decode cX1_leastSlot 50 = .ok (.iload 4, 2) := dk_21 4 (dk_at dksX1_leastSlot_2 3 rfl rfl)
theorem dX1_leastSlot_52 : decode cX1_leastSlot 52 = .ok (.iconst (-1), 1) := dk_2 (dk_at dksX1_leastSlot_2 5 rfl rfl)
theorem dX1_leastSlot_53 : decode cX1_leastSlot 53 = .ok (.if_icmp .eq 18, 3) := dk_159 0 18 (dk_at dksX1_leastSlot_2 6 rfl rfl)
theorem dX1_leastSlot_56 : decode cX1_leastSlot 56 = .ok (.aload_n 3, 1) := dk_45 (dk_at dksX1_leastSlot_2 9 rfl rfl)
theorem dX1_leastSlot_57 : decode cX1_leastSlot 57 = .ok (.iload 5, 2) := dk_21 5 (dk_at dksX1_leastSlot_2 10 rfl rfl)
theorem dX1_leastSlot_59 : decode cX1_leastSlot 59 = .ok (.invokevirtual 131, 3) := dk_182 0 131 (dk_at dksX1_leastSlot_2 12 rfl rfl)
theorem dX1_leastSlot_62 : decode cX1_leastSlot 62 = .ok (.aload_n 3, 1) := dk_45 (dk_at dksX1_leastSlot_2 15 rfl rfl)
theorem dX1_leastSlot_63 : decode cX1_leastSlot 63 = .ok (.iload 4, 2) := dk_21 4 (dk_at dksX1_leastSlot_2 16 rfl rfl)
theorem dX1_leastSlot_65 : decode cX1_leastSlot 65 = .ok (.invokevirtual 131, 3) := dk_182 0 131 (dk_at dksX1_leastSlot_2 18 rfl rfl)
theorem dX1_leastSlot_68 : decode cX1_leastSlot 68 = .ok (.if_icmp .ge 7, 3) := dk_162 0 7 (dk_at dksX1_leastSlot_2 21 rfl rfl)
theorem dX1_leastSlot_71 : decode cX1_leastSlot 71 = .ok (.iload 5, 2) := dk_21 5 (dk_at dksX1_leastSlot_3 0 rfl rfl)
theorem dX1_leastSlot_73 : decode cX1_leastSlot 73 = .ok (.istore 4, 2) := dk_54 4 (dk_at dksX1_leastSlot_3 2 rfl rfl)
theorem dX1_leastSlot_75 : decode cX1_leastSlot 75 = .ok (.iinc 5 1, 3) := dk_132 5 1 (dk_at dksX1_leastSlot_3 4 rfl rfl)
theorem dX1_leastSlot_78 : decode cX1_leastSlot 78 = .ok (.goto (-61), 3) := dk_167 255 195 (dk_at dksX1_leastSlot_3 7 rfl rfl)
theorem dX1_leastSlot_81 : decode cX1_leastSlot 81 = .ok (.iload 4, 2) := dk_21 4 (dk_at dksX1_leastSlot_3 10 rfl rfl)
theorem dX1_leastSlot_83 : decode cX1_leastSlot 83 = .ok (.ireturn, 1) := dk_172 (dk_at dksX1_leastSlot_3 12 rfl rfl)
abbrev cX1_better : ByteArray := prog_1_method_25_code
def yX1_better : MethodName := ⟨RX1, "better", "()I"⟩
theorem dX1_better_0 : decode cX1_better 0 = .ok (.aload_n 0, 1) := by decide +kernel
theorem dX1_better_1 : decode cX1_better 1 = .ok (.invokevirtual 198, 3) := by decide +kernel
theorem dX1_better_4 : decode cX1_better 4 = .ok (.ireturn, 1) := by decide +kernel
abbrev cX1_betterNow : ByteArray := prog_1_method_24_code
def yX1_betterNow : MethodName := ⟨RX1, "betterNow", "()I"⟩
def dkwX1_betterNow_6 : List UInt8 := [191, 132, 3, 1, 167, 255, 128, 28, 172]
abbrev dktX1_betterNow_6 : List UInt8 := dkwX1_betterNow_6 ++ []
def dkwX1_betterNow_5 : List UInt8 := [167, 0, 25, 58, 6, 25, 5, 182, 0, 181, 167, 0, 12, 58, 7, 25, 6, 25, 7, 182, 0, 186, 25, 6]
abbrev dktX1_betterNow_5 : List UInt8 := dkwX1_betterNow_5 ++ dktX1_betterNow_6
def dkwX1_betterNow_4 : List UInt8 := [182, 0, 181, 167, 0, 44, 21, 7, 60, 16, 100, 29, 104, 21, 6, 96, 61, 25, 5, 182, 0, 181]
abbrev dktX1_betterNow_4 : List UInt8 := dkwX1_betterNow_4 ++ dktX1_betterNow_5
def dkwX1_betterNow_3 : List UInt8 := [18, 197, 167, 0, 10, 25, 5, 21, 6, 182, 0, 131, 54, 7, 21, 7, 27, 161, 0, 11, 25, 5]
abbrev dktX1_betterNow_3 : List UInt8 := dkwX1_betterNow_3 ++ dktX1_betterNow_4
def dkwX1_betterNow_2 : List UInt8 := [42, 29, 183, 0, 178, 58, 5, 42, 29, 21, 4, 25, 5, 182, 0, 190, 54, 6, 21, 6, 2, 160, 0, 8]
abbrev dktX1_betterNow_2 : List UInt8 := dkwX1_betterNow_2 ++ dktX1_betterNow_3
def dkwX1_betterNow_1 : List UInt8 := [162, 0, 123, 42, 180, 0, 24, 29, 46, 54, 4, 21, 4, 2, 160, 0, 6, 167, 0, 100, 187, 0, 132, 89]
abbrev dktX1_betterNow_1 : List UInt8 := dkwX1_betterNow_1 ++ dktX1_betterNow_2
def dkwX1_betterNow_0 : List UInt8 := [42, 182, 0, 143, 42, 180, 0, 85, 60, 16, 254, 61, 3, 62, 29, 42, 180, 0, 16, 180, 0, 67]
abbrev dktX1_betterNow_0 : List UInt8 := dkwX1_betterNow_0 ++ dktX1_betterNow_1
theorem dksX1_betterNow_0 : cX1_betterNow.data.toList.drop 0 = dktX1_betterNow_0 := by decide +kernel
theorem dksX1_betterNow_1 : cX1_betterNow.data.toList.drop 22 = dktX1_betterNow_1 := dk_seg dksX1_betterNow_0 22 rfl rfl
theorem dksX1_betterNow_2 : cX1_betterNow.data.toList.drop 46 = dktX1_betterNow_2 := dk_seg dksX1_betterNow_1 24 rfl rfl
theorem dksX1_betterNow_3 : cX1_betterNow.data.toList.drop 70 = dktX1_betterNow_3 := dk_seg dksX1_betterNow_2 24 rfl rfl
theorem dksX1_betterNow_4 : cX1_betterNow.data.toList.drop 92 = dktX1_betterNow_4 := dk_seg dksX1_betterNow_3 22 rfl rfl
theorem dksX1_betterNow_5 : cX1_betterNow.data.toList.drop 114 = dktX1_betterNow_5 := dk_seg dksX1_betterNow_4 22 rfl rfl
theorem dksX1_betterNow_6 : cX1_betterNow.data.toList.drop 138 = dktX1_betterNow_6 := dk_seg dksX1_betterNow_5 24 rfl rfl
theorem dX1_betterNow_0 : decode cX1_betterNow 0 = .ok (.aload_n 0, 1) := dk_42 (dk_at dksX1_betterNow_0 0 rfl rfl)
theorem dX1_betterNow_1 : decode cX1_betterNow 1 = .ok (.invokevirtual 143, 3) := dk_182 0 143 (dk_at dksX1_betterNow_0 1 rfl rfl)
theorem dX1_betterNow_4 : decode cX1_betterNow 4 = .ok (.aload_n 0, 1) := dk_42 (dk_at dksX1_betterNow_0 4 rfl rfl)
theorem dX1_betterNow_5 : decode cX1_betterNow 5 = .ok (.getfield 85, 3) := dk_180 0 85 (dk_at dksX1_betterNow_0 5 rfl rfl)
theorem dX1_betterNow_8 : decode cX1_betterNow 8 = .ok (.istore_n 1, 1) := dk_60 (dk_at dksX1_betterNow_0 8 rfl rfl)
theorem dX1_betterNow_9 : decode cX1_betterNow 9 = .ok (.bipush (-2), 2) := dk_16 254 (dk_at dksX1_betterNow_0 9 rfl rfl)
theorem dX1_betterNow_11 : decode cX1_betterNow 11 = .ok (.istore_n 2, 1) := dk_61 (dk_at dksX1_betterNow_0 11 rfl rfl)
theorem dX1_betterNow_12 : decode cX1_betterNow 12 = .ok (.iconst 0, 1) := dk_3 (dk_at dksX1_betterNow_0 12 rfl rfl)
theorem dX1_betterNow_13 : decode cX1_betterNow 13 = .ok (.istore_n 3, 1) := dk_62 (dk_at dksX1_betterNow_0 13 rfl rfl)
theorem dX1_betterNow_14 : decode cX1_betterNow 14 = .ok (.iload_n 3, 1) := dk_29 (dk_at dksX1_betterNow_0 14 rfl rfl)
theorem dX1_betterNow_15 : decode cX1_betterNow 15 = .ok (.aload_n 0, 1) := dk_42 (dk_at dksX1_betterNow_0 15 rfl rfl)
theorem dX1_betterNow_16 : decode cX1_betterNow 16 = .ok (.getfield 16, 3) := dk_180 0 16 (dk_at dksX1_betterNow_0 16 rfl rfl)
theorem dX1_betterNow_19 : decode cX1_betterNow 19 = .ok (.getfield 67, 3) := dk_180 0 67 (dk_at dksX1_betterNow_0 19 rfl rfl)
theorem dX1_betterNow_22 : decode cX1_betterNow 22 = .ok (.if_icmp .ge 123, 3) := dk_162 0 123 (dk_at dksX1_betterNow_1 0 rfl rfl)
theorem dX1_betterNow_25 : decode cX1_betterNow 25 = .ok (.aload_n 0, 1) := dk_42 (dk_at dksX1_betterNow_1 3 rfl rfl)
theorem dX1_betterNow_26 : decode cX1_betterNow 26 = .ok (.getfield 24, 3) := dk_180 0 24 (dk_at dksX1_betterNow_1 4 rfl rfl)
theorem dX1_betterNow_29 : decode cX1_betterNow 29 = .ok (.iload_n 3, 1) := dk_29 (dk_at dksX1_betterNow_1 7 rfl rfl)
theorem dX1_betterNow_30 : decode cX1_betterNow 30 = .ok (.iaload, 1) := dk_46 (dk_at dksX1_betterNow_1 8 rfl rfl)
theorem dX1_betterNow_31 : decode cX1_betterNow 31 = .ok (.istore 4, 2) := dk_54 4 (dk_at dksX1_betterNow_1 9 rfl rfl)
theorem dX1_betterNow_33 : decode cX1_betterNow 33 = .ok (.iload 4, 2) := dk_21 4 (dk_at dksX1_betterNow_1 11 rfl rfl)
theorem dX1_betterNow_35 : decode cX1_betterNow 35 = .ok (.iconst (-1), 1) := dk_2 (dk_at dksX1_betterNow_1 13 rfl rfl)
theorem dX1_betterNow_36 : decode cX1_betterNow 36 = .ok (.if_icmp .ne 6, 3) := dk_160 0 6 (dk_at dksX1_betterNow_1 14 rfl rfl)
theorem dX1_betterNow_39 : decode cX1_betterNow 39 = .ok (.goto 100, 3) := dk_167 0 100 (dk_at dksX1_betterNow_1 17 rfl rfl)
theorem dX1_betterNow_42 : decode cX1_betterNow 42 = .ok (.new 132, 3) := dk_187 0 132 (dk_at dksX1_betterNow_1 20 rfl rfl)
theorem dX1_betterNow_45 : decode cX1_betterNow 45 = .ok (.dup, 1) := dk_89 (dk_at dksX1_betterNow_1 23 rfl rfl)
theorem dX1_betterNow_46 : decode cX1_betterNow 46 = .ok (.aload_n 0, 1) := dk_42 (dk_at dksX1_betterNow_2 0 rfl rfl)
theorem dX1_betterNow_47 : decode cX1_betterNow 47 = .ok (.iload_n 3, 1) := dk_29 (dk_at dksX1_betterNow_2 1 rfl rfl)
theorem dX1_betterNow_48 : decode cX1_betterNow 48 = .ok (.invokespecial 178, 3) := dk_183 0 178 (dk_at dksX1_betterNow_2 2 rfl rfl)
theorem dX1_betterNow_51 : decode cX1_betterNow 51 = .ok (.astore 5, 2) := dk_58 5 (dk_at dksX1_betterNow_2 5 rfl rfl)
theorem dX1_betterNow_53 : decode cX1_betterNow 53 = .ok (.aload_n 0, 1) := dk_42 (dk_at dksX1_betterNow_2 7 rfl rfl)
theorem dX1_betterNow_54 : decode cX1_betterNow 54 = .ok (.iload_n 3, 1) := dk_29 (dk_at dksX1_betterNow_2 8 rfl rfl)
theorem dX1_betterNow_55 : decode cX1_betterNow 55 = .ok (.iload 4, 2) := dk_21 4 (dk_at dksX1_betterNow_2 9 rfl rfl)
theorem dX1_betterNow_57 : decode cX1_betterNow 57 = .ok (.aload 5, 2) := dk_25 5 (dk_at dksX1_betterNow_2 11 rfl rfl)
theorem dX1_betterNow_59 : decode cX1_betterNow 59 = .ok (.invokevirtual 190, 3) := dk_182 0 190 (dk_at dksX1_betterNow_2 13 rfl rfl)
theorem dX1_betterNow_62 : decode cX1_betterNow 62 = .ok (.istore 6, 2) := dk_54 6 (dk_at dksX1_betterNow_2 16 rfl rfl)
theorem dX1_betterNow_64 : decode cX1_betterNow 64 = .ok (.iload 6, 2) := dk_21 6 (dk_at dksX1_betterNow_2 18 rfl rfl)
theorem dX1_betterNow_66 : decode cX1_betterNow 66 = .ok (.iconst (-1), 1) := dk_2 (dk_at dksX1_betterNow_2 20 rfl rfl)
theorem dX1_betterNow_67 : decode cX1_betterNow 67 = .ok (.if_icmp .ne 8, 3) := dk_160 0 8 (dk_at dksX1_betterNow_2 21 rfl rfl)
theorem dX1_betterNow_70 : decode cX1_betterNow 70 = .ok (.ldc 197, 2) := dk_18 197 (dk_at dksX1_betterNow_3 0 rfl rfl)
theorem dX1_betterNow_72 : decode cX1_betterNow 72 = .ok (.goto 10, 3) := dk_167 0 10 (dk_at dksX1_betterNow_3 2 rfl rfl)
theorem dX1_betterNow_75 : decode cX1_betterNow 75 = .ok (.aload 5, 2) := dk_25 5 (dk_at dksX1_betterNow_3 5 rfl rfl)
theorem dX1_betterNow_77 : decode cX1_betterNow 77 = .ok (.iload 6, 2) := dk_21 6 (dk_at dksX1_betterNow_3 7 rfl rfl)
theorem dX1_betterNow_79 : decode cX1_betterNow 79 = .ok (.invokevirtual 131, 3) := dk_182 0 131 (dk_at dksX1_betterNow_3 9 rfl rfl)
theorem dX1_betterNow_82 : decode cX1_betterNow 82 = .ok (.istore 7, 2) := dk_54 7 (dk_at dksX1_betterNow_3 12 rfl rfl)
theorem dX1_betterNow_84 : decode cX1_betterNow 84 = .ok (.iload 7, 2) := dk_21 7 (dk_at dksX1_betterNow_3 14 rfl rfl)
theorem dX1_betterNow_86 : decode cX1_betterNow 86 = .ok (.iload_n 1, 1) := dk_27 (dk_at dksX1_betterNow_3 16 rfl rfl)
theorem dX1_betterNow_87 : decode cX1_betterNow 87 = .ok (.if_icmp .lt 11, 3) := dk_161 0 11 (dk_at dksX1_betterNow_3 17 rfl rfl)
theorem dX1_betterNow_90 : decode cX1_betterNow 90 = .ok (.aload 5, 2) := dk_25 5 (dk_at dksX1_betterNow_3 20 rfl rfl)
theorem dX1_betterNow_92 : decode cX1_betterNow 92 = .ok (.invokevirtual 181, 3) := dk_182 0 181 (dk_at dksX1_betterNow_4 0 rfl rfl)
theorem dX1_betterNow_95 : decode cX1_betterNow 95 = .ok (.goto 44, 3) := dk_167 0 44 (dk_at dksX1_betterNow_4 3 rfl rfl)
theorem dX1_betterNow_98 : decode cX1_betterNow 98 = .ok (.iload 7, 2) := dk_21 7 (dk_at dksX1_betterNow_4 6 rfl rfl)
theorem dX1_betterNow_100 : decode cX1_betterNow 100 = .ok (.istore_n 1, 1) := dk_60 (dk_at dksX1_betterNow_4 8 rfl rfl)
theorem dX1_betterNow_101 : decode cX1_betterNow 101 = .ok (.bipush 100, 2) := dk_16 100 (dk_at dksX1_betterNow_4 9 rfl rfl)
theorem dX1_betterNow_103 : decode cX1_betterNow 103 = .ok (.iload_n 3, 1) := dk_29 (dk_at dksX1_betterNow_4 11 rfl rfl)
theorem dX1_betterNow_104 : decode cX1_betterNow 104 = .ok (.imul, 1) := dk_104 (dk_at dksX1_betterNow_4 12 rfl rfl)
theorem dX1_betterNow_105 : decode cX1_betterNow 105 = .ok (.iload 6, 2) := dk_21 6 (dk_at dksX1_betterNow_4 13 rfl rfl)
theorem dX1_betterNow_107 : decode cX1_betterNow 107 = .ok (.iadd, 1) := dk_96 (dk_at dksX1_betterNow_4 15 rfl rfl)
theorem dX1_betterNow_108 : decode cX1_betterNow 108 = .ok (.istore_n 2, 1) := dk_61 (dk_at dksX1_betterNow_4 16 rfl rfl)
theorem dX1_betterNow_109 : decode cX1_betterNow 109 = .ok (.aload 5, 2) := dk_25 5 (dk_at dksX1_betterNow_4 17 rfl rfl)
theorem dX1_betterNow_111 : decode cX1_betterNow 111 = .ok (.invokevirtual 181, 3) := dk_182 0 181 (dk_at dksX1_betterNow_4 19 rfl rfl)
theorem dX1_betterNow_114 : decode cX1_betterNow 114 = .ok (.goto 25, 3) := dk_167 0 25 (dk_at dksX1_betterNow_5 0 rfl rfl)
theorem dX1_betterNow_117 : decode cX1_betterNow 117 = .ok (.astore 6, 2) := dk_58 6 (dk_at dksX1_betterNow_5 3 rfl rfl)
theorem dX1_betterNow_119 : decode cX1_betterNow 119 = .ok (.aload 5, 2) := dk_25 5 (dk_at dksX1_betterNow_5 5 rfl rfl)
theorem dX1_betterNow_121 : decode cX1_betterNow 121 = .ok (.invokevirtual 181, 3) := dk_182 0 181 (dk_at dksX1_betterNow_5 7 rfl rfl)
theorem dX1_betterNow_124 : decode cX1_betterNow 124 = .ok (.goto 12, 3) := dk_167 0 12 (dk_at dksX1_betterNow_5 10 rfl rfl)
theorem dX1_betterNow_127 : decode cX1_betterNow 127 = .ok (.astore 7, 2) := dk_58 7 (dk_at dksX1_betterNow_5 13 rfl rfl)
theorem dX1_betterNow_129 : decode cX1_betterNow 129 = .ok (.aload 6, 2) := dk_25 6 (dk_at dksX1_betterNow_5 15 rfl rfl)
theorem dX1_betterNow_131 : decode cX1_betterNow 131 = .ok (.aload 7, 2) := dk_25 7 (dk_at dksX1_betterNow_5 17 rfl rfl)
theorem dX1_betterNow_133 : decode cX1_betterNow 133 = .ok (.invokevirtual 186, 3) := dk_182 0 186 (dk_at dksX1_betterNow_5 19 rfl rfl)
theorem dX1_betterNow_136 : decode cX1_betterNow 136 = .ok (.aload 6, 2) := dk_25 6 (dk_at dksX1_betterNow_5 22 rfl rfl)
theorem dX1_betterNow_138 : decode cX1_betterNow 138 = .ok (.athrow, 1) := dk_191 (dk_at dksX1_betterNow_6 0 rfl rfl)
theorem dX1_betterNow_139 : decode cX1_betterNow 139 = .ok (.iinc 3 1, 3) := dk_132 3 1 (dk_at dksX1_betterNow_6 1 rfl rfl)
theorem dX1_betterNow_142 : decode cX1_betterNow 142 = .ok (.goto (-128), 3) := dk_167 255 128 (dk_at dksX1_betterNow_6 4 rfl rfl)
theorem dX1_betterNow_145 : decode cX1_betterNow 145 = .ok (.iload_n 2, 1) := dk_28 (dk_at dksX1_betterNow_6 7 rfl rfl)
theorem dX1_betterNow_146 : decode cX1_betterNow 146 = .ok (.ireturn, 1) := dk_172 (dk_at dksX1_betterNow_6 8 rfl rfl)
abbrev cX1_least : ByteArray := prog_1_method_28_code
def yX1_least : MethodName := ⟨RX1, "least", "(I)I"⟩
def dkwX1_least_7 : List UInt8 := [132, 3, 1, 167, 255, 159, 28, 172]
abbrev dktX1_least_7 : List UInt8 := dkwX1_least_7 ++ []
def dkwX1_least_6 : List UInt8 := [184, 0, 212, 28, 42, 27, 25, 4, 180, 0, 162, 182, 0, 208, 153, 0, 7, 3, 167, 0, 4, 4, 96, 61]
abbrev dktX1_least_6 : List UInt8 := dkwX1_least_6 ++ dktX1_least_7
def dkwX1_least_5 : List UInt8 := [180, 0, 98, 25, 4, 180, 0, 162, 50, 180, 0, 115, 4, 159, 0, 5, 2, 172, 42, 180, 0, 34, 3]
abbrev dktX1_least_5 : List UInt8 := dkwX1_least_5 ++ dktX1_least_6
def dkwX1_least_4 : List UInt8 := [180, 0, 110, 27, 159, 0, 6, 167, 0, 63, 25, 4, 180, 0, 161, 4, 160, 0, 23, 42, 180, 0, 16]
abbrev dktX1_least_4 : List UInt8 := dkwX1_least_4 ++ dktX1_least_5
def dkwX1_least_3 : List UInt8 := [29, 42, 180, 0, 16, 180, 0, 137, 162, 0, 92, 42, 180, 0, 16, 180, 0, 102, 29, 50, 58, 4, 25, 4]
abbrev dktX1_least_3 : List UInt8 := dkwX1_least_3 ++ dktX1_least_4
def dkwX1_least_2 : List UInt8 := [29, 96, 46, 184, 0, 91, 96, 61, 132, 3, 1, 167, 255, 213, 42, 180, 0, 31, 2, 184, 0, 54, 3, 62]
abbrev dktX1_least_2 : List UInt8 := dkwX1_least_2 ++ dktX1_least_3
def dkwX1_least_1 : List UInt8 := [180, 0, 16, 180, 0, 88, 16, 48, 27, 104, 29, 96, 46, 42, 180, 0, 16, 180, 0, 76, 16, 48, 27, 104]
abbrev dktX1_least_1 : List UInt8 := dkwX1_least_1 ++ dktX1_least_2
def dkwX1_least_0 : List UInt8 := [42, 27, 182, 0, 169, 154, 0, 5, 2, 172, 3, 61, 3, 62, 29, 16, 48, 162, 0, 43, 28, 42]
abbrev dktX1_least_0 : List UInt8 := dkwX1_least_0 ++ dktX1_least_1
theorem dksX1_least_0 : cX1_least.data.toList.drop 0 = dktX1_least_0 := by decide +kernel
theorem dksX1_least_1 : cX1_least.data.toList.drop 22 = dktX1_least_1 := dk_seg dksX1_least_0 22 rfl rfl
theorem dksX1_least_2 : cX1_least.data.toList.drop 46 = dktX1_least_2 := dk_seg dksX1_least_1 24 rfl rfl
theorem dksX1_least_3 : cX1_least.data.toList.drop 70 = dktX1_least_3 := dk_seg dksX1_least_2 24 rfl rfl
theorem dksX1_least_4 : cX1_least.data.toList.drop 94 = dktX1_least_4 := dk_seg dksX1_least_3 24 rfl rfl
theorem dksX1_least_5 : cX1_least.data.toList.drop 117 = dktX1_least_5 := dk_seg dksX1_least_4 23 rfl rfl
theorem dksX1_least_6 : cX1_least.data.toList.drop 140 = dktX1_least_6 := dk_seg dksX1_least_5 23 rfl rfl
theorem dksX1_least_7 : cX1_least.data.toList.drop 164 = dktX1_least_7 := dk_seg dksX1_least_6 24 rfl rfl
theorem dX1_least_0 : decode cX1_least 0 = .ok (.aload_n 0, 1) := dk_42 (dk_at dksX1_least_0 0 rfl rfl)
theorem dX1_least_1 : decode cX1_least 1 = .ok (.iload_n 1, 1) := dk_27 (dk_at dksX1_least_0 1 rfl rfl)
theorem dX1_least_2 : decode cX1_least 2 = .ok (.invokevirtual 169, 3) := dk_182 0 169 (dk_at dksX1_least_0 2 rfl rfl)
theorem dX1_least_5 : decode cX1_least 5 = .ok (.ifCond .ne 5, 3) := dk_154 0 5 (dk_at dksX1_least_0 5 rfl rfl)
theorem dX1_least_8 : decode cX1_least 8 = .ok (.iconst (-1), 1) := dk_2 (dk_at dksX1_least_0 8 rfl rfl)
theorem dX1_least_9 : decode cX1_least 9 = .ok (.ireturn, 1) := dk_172 (dk_at dksX1_least_0 9 rfl rfl)
theorem dX1_least_10 : decode cX1_least 10 = .ok (.iconst 0, 1) := dk_3 (dk_at dksX1_least_0 10 rfl rfl)
theorem dX1_least_11 : decode cX1_least 11 = .ok (.istore_n 2, 1) := dk_61 (dk_at dksX1_least_0 11 rfl rfl)
theorem dX1_least_12 : decode cX1_least 12 = .ok (.iconst 0, 1) := dk_3 (dk_at dksX1_least_0 12 rfl rfl)
theorem dX1_least_13 : decode cX1_least 13 = .ok (.istore_n 3, 1) := dk_62 (dk_at dksX1_least_0 13 rfl rfl)
theorem dX1_least_14 : decode cX1_least 14 = .ok (.iload_n 3, 1) := dk_29 (dk_at dksX1_least_0 14 rfl rfl)
theorem dX1_least_15 : decode cX1_least 15 = .ok (.bipush 48, 2) := dk_16 48 (dk_at dksX1_least_0 15 rfl rfl)
theorem dX1_least_17 : decode cX1_least 17 = .ok (.if_icmp .ge 43, 3) := dk_162 0 43 (dk_at dksX1_least_0 17 rfl rfl)
theorem dX1_least_20 : decode cX1_least 20 = .ok (.iload_n 2, 1) := dk_28 (dk_at dksX1_least_0 20 rfl rfl)
theorem dX1_least_21 : decode cX1_least 21 = .ok (.aload_n 0, 1) := dk_42 (dk_at dksX1_least_0 21 rfl rfl)
theorem dX1_least_22 : decode cX1_least 22 = .ok (.getfield 16, 3) := dk_180 0 16 (dk_at dksX1_least_1 0 rfl rfl)
theorem dX1_least_25 : decode cX1_least 25 = .ok (.getfield 88, 3) := dk_180 0 88 (dk_at dksX1_least_1 3 rfl rfl)
theorem dX1_least_28 : decode cX1_least 28 = .ok (.bipush 48, 2) := dk_16 48 (dk_at dksX1_least_1 6 rfl rfl)
theorem dX1_least_30 : decode cX1_least 30 = .ok (.iload_n 1, 1) := dk_27 (dk_at dksX1_least_1 8 rfl rfl)
theorem dX1_least_31 : decode cX1_least 31 = .ok (.imul, 1) := dk_104 (dk_at dksX1_least_1 9 rfl rfl)
theorem dX1_least_32 : decode cX1_least 32 = .ok (.iload_n 3, 1) := dk_29 (dk_at dksX1_least_1 10 rfl rfl)
theorem dX1_least_33 : decode cX1_least 33 = .ok (.iadd, 1) := dk_96 (dk_at dksX1_least_1 11 rfl rfl)
theorem dX1_least_34 : decode cX1_least 34 = .ok (.iaload, 1) := dk_46 (dk_at dksX1_least_1 12 rfl rfl)
theorem dX1_least_35 : decode cX1_least 35 = .ok (.aload_n 0, 1) := dk_42 (dk_at dksX1_least_1 13 rfl rfl)
theorem dX1_least_36 : decode cX1_least 36 = .ok (.getfield 16, 3) := dk_180 0 16 (dk_at dksX1_least_1 14 rfl rfl)
theorem dX1_least_39 : decode cX1_least 39 = .ok (.getfield 76, 3) := dk_180 0 76 (dk_at dksX1_least_1 17 rfl rfl)
theorem dX1_least_42 : decode cX1_least 42 = .ok (.bipush 48, 2) := dk_16 48 (dk_at dksX1_least_1 20 rfl rfl)
theorem dX1_least_44 : decode cX1_least 44 = .ok (.iload_n 1, 1) := dk_27 (dk_at dksX1_least_1 22 rfl rfl)
theorem dX1_least_45 : decode cX1_least 45 = .ok (.imul, 1) := dk_104 (dk_at dksX1_least_1 23 rfl rfl)
theorem dX1_least_46 : decode cX1_least 46 = .ok (.iload_n 3, 1) := dk_29 (dk_at dksX1_least_2 0 rfl rfl)
theorem dX1_least_47 : decode cX1_least 47 = .ok (.iadd, 1) := dk_96 (dk_at dksX1_least_2 1 rfl rfl)
theorem dX1_least_48 : decode cX1_least 48 = .ok (.iaload, 1) := dk_46 (dk_at dksX1_least_2 2 rfl rfl)
theorem dX1_least_49 : decode cX1_least 49 = .ok (.invokestatic 91, 3) := dk_184 0 91 (dk_at dksX1_least_2 3 rfl rfl)
theorem dX1_least_52 : decode cX1_least 52 = .ok (.iadd, 1) := dk_96 (dk_at dksX1_least_2 6 rfl rfl)
theorem dX1_least_53 : decode cX1_least 53 = .ok (.istore_n 2, 1) := dk_61 (dk_at dksX1_least_2 7 rfl rfl)
theorem dX1_least_54 : decode cX1_least 54 = .ok (.iinc 3 1, 3) := dk_132 3 1 (dk_at dksX1_least_2 8 rfl rfl)
theorem dX1_least_57 : decode cX1_least 57 = .ok (.goto (-43), 3) := dk_167 255 213 (dk_at dksX1_least_2 11 rfl rfl)
theorem dX1_least_60 : decode cX1_least 60 = .ok (.aload_n 0, 1) := dk_42 (dk_at dksX1_least_2 14 rfl rfl)
theorem dX1_least_61 : decode cX1_least 61 = .ok (.getfield 31, 3) := dk_180 0 31 (dk_at dksX1_least_2 15 rfl rfl)
theorem dX1_least_64 : decode cX1_least 64 = .ok (.iconst (-1), 1) := dk_2 (dk_at dksX1_least_2 18 rfl rfl)
theorem dX1_least_65 : decode cX1_least 65 = .ok (.invokestatic 54, 3) := dk_184 0 54 (dk_at dksX1_least_2 19 rfl rfl)
theorem dX1_least_68 : decode cX1_least 68 = .ok (.iconst 0, 1) := dk_3 (dk_at dksX1_least_2 22 rfl rfl)
theorem dX1_least_69 : decode cX1_least 69 = .ok (.istore_n 3, 1) := dk_62 (dk_at dksX1_least_2 23 rfl rfl)
theorem dX1_least_70 : decode cX1_least 70 = .ok (.iload_n 3, 1) := dk_29 (dk_at dksX1_least_3 0 rfl rfl)
theorem dX1_least_71 : decode cX1_least 71 = .ok (.aload_n 0, 1) := dk_42 (dk_at dksX1_least_3 1 rfl rfl)
theorem dX1_least_72 : decode cX1_least 72 = .ok (.getfield 16, 3) := dk_180 0 16 (dk_at dksX1_least_3 2 rfl rfl)
theorem dX1_least_75 : decode cX1_least 75 = .ok (.getfield 137, 3) := dk_180 0 137 (dk_at dksX1_least_3 5 rfl rfl)
theorem dX1_least_78 : decode cX1_least 78 = .ok (.if_icmp .ge 92, 3) := dk_162 0 92 (dk_at dksX1_least_3 8 rfl rfl)
theorem dX1_least_81 : decode cX1_least 81 = .ok (.aload_n 0, 1) := dk_42 (dk_at dksX1_least_3 11 rfl rfl)
theorem dX1_least_82 : decode cX1_least 82 = .ok (.getfield 16, 3) := dk_180 0 16 (dk_at dksX1_least_3 12 rfl rfl)
theorem dX1_least_85 : decode cX1_least 85 = .ok (.getfield 102, 3) := dk_180 0 102 (dk_at dksX1_least_3 15 rfl rfl)
theorem dX1_least_88 : decode cX1_least 88 = .ok (.iload_n 3, 1) := dk_29 (dk_at dksX1_least_3 18 rfl rfl)
theorem dX1_least_89 : decode cX1_least 89 = .ok (.aaload, 1) := dk_50 (dk_at dksX1_least_3 19 rfl rfl)
theorem dX1_least_90 : decode cX1_least 90 = .ok (.astore 4, 2) := dk_58 4 (dk_at dksX1_least_3 20 rfl rfl)
theorem dX1_least_92 : decode cX1_least 92 = .ok (.aload 4, 2) := dk_25 4 (dk_at dksX1_least_3 22 rfl rfl)
theorem dX1_least_94 : decode cX1_least 94 = .ok (.getfield 110, 3) := dk_180 0 110 (dk_at dksX1_least_4 0 rfl rfl)
theorem dX1_least_97 : decode cX1_least 97 = .ok (.iload_n 1, 1) := dk_27 (dk_at dksX1_least_4 3 rfl rfl)
theorem dX1_least_98 : decode cX1_least 98 = .ok (.if_icmp .eq 6, 3) := dk_159 0 6 (dk_at dksX1_least_4 4 rfl rfl)
theorem dX1_least_101 : decode cX1_least 101 = .ok (.goto 63, 3) := dk_167 0 63 (dk_at dksX1_least_4 7 rfl rfl)
theorem dX1_least_104 : decode cX1_least 104 = .ok (.aload 4, 2) := dk_25 4 (dk_at dksX1_least_4 10 rfl rfl)
theorem dX1_least_106 : decode cX1_least 106 = .ok (.getfield 161, 3) := dk_180 0 161 (dk_at dksX1_least_4 12 rfl rfl)
theorem dX1_least_109 : decode cX1_least 109 = .ok (.iconst 1, 1) := dk_4 (dk_at dksX1_least_4 15 rfl rfl)
theorem dX1_least_110 : decode cX1_least 110 = .ok (.if_icmp .ne 23, 3) := dk_160 0 23 (dk_at dksX1_least_4 16 rfl rfl)
theorem dX1_least_113 : decode cX1_least 113 = .ok (.aload_n 0, 1) := dk_42 (dk_at dksX1_least_4 19 rfl rfl)
theorem dX1_least_114 : decode cX1_least 114 = .ok (.getfield 16, 3) := dk_180 0 16 (dk_at dksX1_least_4 20 rfl rfl)
theorem dX1_least_117 : decode cX1_least 117 = .ok (.getfield 98, 3) := dk_180 0 98 (dk_at dksX1_least_5 0 rfl rfl)
theorem dX1_least_120 : decode cX1_least 120 = .ok (.aload 4, 2) := dk_25 4 (dk_at dksX1_least_5 3 rfl rfl)
theorem dX1_least_122 : decode cX1_least 122 = .ok (.getfield 162, 3) := dk_180 0 162 (dk_at dksX1_least_5 5 rfl rfl)
theorem dX1_least_125 : decode cX1_least 125 = .ok (.aaload, 1) := dk_50 (dk_at dksX1_least_5 8 rfl rfl)
theorem dX1_least_126 : decode cX1_least 126 = .ok (.getfield 115, 3) := dk_180 0 115 (dk_at dksX1_least_5 9 rfl rfl)
theorem dX1_least_129 : decode cX1_least 129 = .ok (.iconst 1, 1) := dk_4 (dk_at dksX1_least_5 12 rfl rfl)
theorem dX1_least_130 : decode cX1_least 130 = .ok (.if_icmp .eq 5, 3) := dk_159 0 5 (dk_at dksX1_least_5 13 rfl rfl)
theorem dX1_least_133 : decode cX1_least 133 = .ok (.iconst (-1), 1) := dk_2 (dk_at dksX1_least_5 16 rfl rfl)
theorem dX1_least_134 : decode cX1_least 134 = .ok (.ireturn, 1) := dk_172 (dk_at dksX1_least_5 17 rfl rfl)
theorem dX1_least_135 : decode cX1_least 135 = .ok (.aload_n 0, 1) := dk_42 (dk_at dksX1_least_5 18 rfl rfl)
theorem dX1_least_136 : decode cX1_least 136 = .ok (.getfield 34, 3) := dk_180 0 34 (dk_at dksX1_least_5 19 rfl rfl)
theorem dX1_least_139 : decode cX1_least 139 = .ok (.iconst 0, 1) := dk_3 (dk_at dksX1_least_5 22 rfl rfl)
theorem dX1_least_140 : decode cX1_least 140 = .ok (.invokestatic 212, 3) := dk_184 0 212 (dk_at dksX1_least_6 0 rfl rfl)
theorem dX1_least_143 : decode cX1_least 143 = .ok (.iload_n 2, 1) := dk_28 (dk_at dksX1_least_6 3 rfl rfl)
theorem dX1_least_144 : decode cX1_least 144 = .ok (.aload_n 0, 1) := dk_42 (dk_at dksX1_least_6 4 rfl rfl)
theorem dX1_least_145 : decode cX1_least 145 = .ok (.iload_n 1, 1) := dk_27 (dk_at dksX1_least_6 5 rfl rfl)
theorem dX1_least_146 : decode cX1_least 146 = .ok (.aload 4, 2) := dk_25 4 (dk_at dksX1_least_6 6 rfl rfl)
theorem dX1_least_148 : decode cX1_least 148 = .ok (.getfield 162, 3) := dk_180 0 162 (dk_at dksX1_least_6 8 rfl rfl)
theorem dX1_least_151 : decode cX1_least 151 = .ok (.invokevirtual 208, 3) := dk_182 0 208 (dk_at dksX1_least_6 11 rfl rfl)
theorem dX1_least_154 : decode cX1_least 154 = .ok (.ifCond .eq 7, 3) := dk_153 0 7 (dk_at dksX1_least_6 14 rfl rfl)
theorem dX1_least_157 : decode cX1_least 157 = .ok (.iconst 0, 1) := dk_3 (dk_at dksX1_least_6 17 rfl rfl)
theorem dX1_least_158 : decode cX1_least 158 = .ok (.goto 4, 3) := dk_167 0 4 (dk_at dksX1_least_6 18 rfl rfl)
theorem dX1_least_161 : decode cX1_least 161 = .ok (.iconst 1, 1) := dk_4 (dk_at dksX1_least_6 21 rfl rfl)
theorem dX1_least_162 : decode cX1_least 162 = .ok (.iadd, 1) := dk_96 (dk_at dksX1_least_6 22 rfl rfl)
theorem dX1_least_163 : decode cX1_least 163 = .ok (.istore_n 2, 1) := dk_61 (dk_at dksX1_least_6 23 rfl rfl)
theorem dX1_least_164 : decode cX1_least 164 = .ok (.iinc 3 1, 3) := dk_132 3 1 (dk_at dksX1_least_7 0 rfl rfl)
theorem dX1_least_167 : decode cX1_least 167 = .ok (.goto (-97), 3) := dk_167 255 159 (dk_at dksX1_least_7 3 rfl rfl)
theorem dX1_least_170 : decode cX1_least 170 = .ok (.iload_n 2, 1) := dk_28 (dk_at dksX1_least_7 6 rfl rfl)
theorem dX1_least_171 : decode cX1_least 171 = .ok (.ireturn, 1) := dk_172 (dk_at dksX1_least_7 7 rfl rfl)
abbrev cX1_finds : ByteArray := prog_1_method_27_code
def yX1_finds : MethodName := ⟨RX1, "finds", "(II)Z"⟩
def dkwX1_finds_5 : List UInt8 := [4, 172, 132, 4, 1, 167, 255, 166, 132, 3, 1, 167, 255, 141, 3, 172]
abbrev dktX1_finds_5 : List UInt8 := dkwX1_finds_5 ++ []
def dkwX1_finds_4 : List UInt8 := [42, 180, 0, 31, 21, 5, 46, 182, 0, 208, 154, 0, 6, 167, 0, 13, 42, 180, 0, 31, 21, 5, 28, 79]
abbrev dktX1_finds_4 : List UInt8 := dkwX1_finds_4 ++ dktX1_finds_5
def dkwX1_finds_3 : List UInt8 := [167, 0, 50, 42, 180, 0, 34, 21, 5, 4, 84, 42, 180, 0, 31, 21, 5, 46, 2, 159, 0, 21, 42, 27]
abbrev dktX1_finds_3 : List UInt8 := dkwX1_finds_3 ++ dktX1_finds_4
def dkwX1_finds_2 : List UInt8 := [162, 0, 78, 16, 8, 29, 104, 21, 4, 96, 54, 5, 42, 180, 0, 34, 21, 5, 51, 153, 0, 6]
abbrev dktX1_finds_2 : List UInt8 := dkwX1_finds_2 ++ dktX1_finds_3
def dkwX1_finds_1 : List UInt8 := [180, 0, 121, 163, 0, 105, 3, 54, 4, 21, 4, 42, 180, 0, 16, 16, 48, 27, 104, 29, 96, 184, 0, 204]
abbrev dktX1_finds_1 : List UInt8 := dkwX1_finds_1 ++ dktX1_finds_2
def dkwX1_finds_0 : List UInt8 := [42, 180, 0, 16, 180, 0, 98, 28, 50, 180, 0, 118, 62, 29, 42, 180, 0, 16, 180, 0, 98, 28, 50]
abbrev dktX1_finds_0 : List UInt8 := dkwX1_finds_0 ++ dktX1_finds_1
theorem dksX1_finds_0 : cX1_finds.data.toList.drop 0 = dktX1_finds_0 := by decide +kernel
theorem dksX1_finds_1 : cX1_finds.data.toList.drop 23 = dktX1_finds_1 := dk_seg dksX1_finds_0 23 rfl rfl
theorem dksX1_finds_2 : cX1_finds.data.toList.drop 47 = dktX1_finds_2 := dk_seg dksX1_finds_1 24 rfl rfl
theorem dksX1_finds_3 : cX1_finds.data.toList.drop 69 = dktX1_finds_3 := dk_seg dksX1_finds_2 22 rfl rfl
theorem dksX1_finds_4 : cX1_finds.data.toList.drop 93 = dktX1_finds_4 := dk_seg dksX1_finds_3 24 rfl rfl
theorem dksX1_finds_5 : cX1_finds.data.toList.drop 117 = dktX1_finds_5 := dk_seg dksX1_finds_4 24 rfl rfl
theorem dX1_finds_0 : decode cX1_finds 0 = .ok (.aload_n 0, 1) := dk_42 (dk_at dksX1_finds_0 0 rfl rfl)
theorem dX1_finds_1 : decode cX1_finds 1 = .ok (.getfield 16, 3) := dk_180 0 16 (dk_at dksX1_finds_0 1 rfl rfl)
theorem dX1_finds_4 : decode cX1_finds 4 = .ok (.getfield 98, 3) := dk_180 0 98 (dk_at dksX1_finds_0 4 rfl rfl)
theorem dX1_finds_7 : decode cX1_finds 7 = .ok (.iload_n 2, 1) := dk_28 (dk_at dksX1_finds_0 7 rfl rfl)
theorem dX1_finds_8 : decode cX1_finds 8 = .ok (.aaload, 1) := dk_50 (dk_at dksX1_finds_0 8 rfl rfl)
theorem dX1_finds_9 : decode cX1_finds 9 = .ok (.getfield 118, 3) := dk_180 0 118 (dk_at dksX1_finds_0 9 rfl rfl)
theorem dX1_finds_12 : decode cX1_finds 12 = .ok (.istore_n 3, 1) := dk_62 (dk_at dksX1_finds_0 12 rfl rfl)
theorem dX1_finds_13 : decode cX1_finds 13 = .ok (.iload_n 3, 1) := dk_29 (dk_at dksX1_finds_0 13 rfl rfl)
theorem dX1_finds_14 : decode cX1_finds 14 = .ok (.aload_n 0, 1) := dk_42 (dk_at dksX1_finds_0 14 rfl rfl)
theorem dX1_finds_15 : decode cX1_finds 15 = .ok (.getfield 16, 3) := dk_180 0 16 (dk_at dksX1_finds_0 15 rfl rfl)
theorem dX1_finds_18 : decode cX1_finds 18 = .ok (.getfield 98, 3) := dk_180 0 98 (dk_at dksX1_finds_0 18 rfl rfl)
theorem dX1_finds_21 : decode cX1_finds 21 = .ok (.iload_n 2, 1) := dk_28 (dk_at dksX1_finds_0 21 rfl rfl)
theorem dX1_finds_22 : decode cX1_finds 22 = .ok (.aaload, 1) := dk_50 (dk_at dksX1_finds_0 22 rfl rfl)
theorem dX1_finds_23 : decode cX1_finds 23 = .ok (.getfield 121, 3) := dk_180 0 121 (dk_at dksX1_finds_1 0 rfl rfl)
theorem dX1_finds_26 : decode cX1_finds 26 = .ok (.if_icmp .gt 105, 3) := dk_163 0 105 (dk_at dksX1_finds_1 3 rfl rfl)
theorem dX1_finds_29 : decode cX1_finds 29 = .ok (.iconst 0, 1) := dk_3 (dk_at dksX1_finds_1 6 rfl rfl)
theorem dX1_finds_30 : decode cX1_finds 30 = .ok (.istore 4, 2) := dk_54 4 (dk_at dksX1_finds_1 7 rfl rfl)
theorem dX1_finds_32 : decode cX1_finds 32 = .ok (.iload 4, 2) := dk_21 4 (dk_at dksX1_finds_1 9 rfl rfl)
theorem dX1_finds_34 : decode cX1_finds 34 = .ok (.aload_n 0, 1) := dk_42 (dk_at dksX1_finds_1 11 rfl rfl)
theorem dX1_finds_35 : decode cX1_finds 35 = .ok (.getfield 16, 3) := dk_180 0 16 (dk_at dksX1_finds_1 12 rfl rfl)
theorem dX1_finds_38 : decode cX1_finds 38 = .ok (.bipush 48, 2) := dk_16 48 (dk_at dksX1_finds_1 15 rfl rfl)
theorem dX1_finds_40 : decode cX1_finds 40 = .ok (.iload_n 1, 1) := dk_27 (dk_at dksX1_finds_1 17 rfl rfl)
theorem dX1_finds_41 : decode cX1_finds 41 = .ok (.imul, 1) := dk_104 (dk_at dksX1_finds_1 18 rfl rfl)
theorem dX1_finds_42 : decode cX1_finds 42 = .ok (.iload_n 3, 1) := dk_29 (dk_at dksX1_finds_1 19 rfl rfl)
theorem dX1_finds_43 : decode cX1_finds 43 = .ok (.iadd, 1) := dk_96 (dk_at dksX1_finds_1 20 rfl rfl)
theorem dX1_finds_44 : decode cX1_finds 44 = .ok (.invokestatic 204, 3) := dk_184 0 204 (dk_at dksX1_finds_1 21 rfl rfl)
theorem dX1_finds_47 : decode cX1_finds 47 = .ok (.if_icmp .ge 78, 3) := dk_162 0 78 (dk_at dksX1_finds_2 0 rfl rfl)
theorem dX1_finds_50 : decode cX1_finds 50 = .ok (.bipush 8, 2) := dk_16 8 (dk_at dksX1_finds_2 3 rfl rfl)
theorem dX1_finds_52 : decode cX1_finds 52 = .ok (.iload_n 3, 1) := dk_29 (dk_at dksX1_finds_2 5 rfl rfl)
theorem dX1_finds_53 : decode cX1_finds 53 = .ok (.imul, 1) := dk_104 (dk_at dksX1_finds_2 6 rfl rfl)
theorem dX1_finds_54 : decode cX1_finds 54 = .ok (.iload 4, 2) := dk_21 4 (dk_at dksX1_finds_2 7 rfl rfl)
theorem dX1_finds_56 : decode cX1_finds 56 = .ok (.iadd, 1) := dk_96 (dk_at dksX1_finds_2 9 rfl rfl)
theorem dX1_finds_57 : decode cX1_finds 57 = .ok (.istore 5, 2) := dk_54 5 (dk_at dksX1_finds_2 10 rfl rfl)
theorem dX1_finds_59 : decode cX1_finds 59 = .ok (.aload_n 0, 1) := dk_42 (dk_at dksX1_finds_2 12 rfl rfl)
theorem dX1_finds_60 : decode cX1_finds 60 = .ok (.getfield 34, 3) := dk_180 0 34 (dk_at dksX1_finds_2 13 rfl rfl)
theorem dX1_finds_63 : decode cX1_finds 63 = .ok (.iload 5, 2) := dk_21 5 (dk_at dksX1_finds_2 16 rfl rfl)
theorem dX1_finds_65 : decode cX1_finds 65 = .ok (.baload, 1) := dk_51 (dk_at dksX1_finds_2 18 rfl rfl)
theorem dX1_finds_66 : decode cX1_finds 66 = .ok (.ifCond .eq 6, 3) := dk_153 0 6 (dk_at dksX1_finds_2 19 rfl rfl)
theorem dX1_finds_69 : decode cX1_finds 69 = .ok (.goto 50, 3) := dk_167 0 50 (dk_at dksX1_finds_3 0 rfl rfl)
theorem dX1_finds_72 : decode cX1_finds 72 = .ok (.aload_n 0, 1) := dk_42 (dk_at dksX1_finds_3 3 rfl rfl)
theorem dX1_finds_73 : decode cX1_finds 73 = .ok (.getfield 34, 3) := dk_180 0 34 (dk_at dksX1_finds_3 4 rfl rfl)
theorem dX1_finds_76 : decode cX1_finds 76 = .ok (.iload 5, 2) := dk_21 5 (dk_at dksX1_finds_3 7 rfl rfl)
theorem dX1_finds_78 : decode cX1_finds 78 = .ok (.iconst 1, 1) := dk_4 (dk_at dksX1_finds_3 9 rfl rfl)
theorem dX1_finds_79 : decode cX1_finds 79 = .ok (.bastore, 1) := dk_84 (dk_at dksX1_finds_3 10 rfl rfl)
theorem dX1_finds_80 : decode cX1_finds 80 = .ok (.aload_n 0, 1) := dk_42 (dk_at dksX1_finds_3 11 rfl rfl)
theorem dX1_finds_81 : decode cX1_finds 81 = .ok (.getfield 31, 3) := dk_180 0 31 (dk_at dksX1_finds_3 12 rfl rfl)
theorem dX1_finds_84 : decode cX1_finds 84 = .ok (.iload 5, 2) := dk_21 5 (dk_at dksX1_finds_3 15 rfl rfl)
theorem dX1_finds_86 : decode cX1_finds 86 = .ok (.iaload, 1) := dk_46 (dk_at dksX1_finds_3 17 rfl rfl)
theorem dX1_finds_87 : decode cX1_finds 87 = .ok (.iconst (-1), 1) := dk_2 (dk_at dksX1_finds_3 18 rfl rfl)
theorem dX1_finds_88 : decode cX1_finds 88 = .ok (.if_icmp .eq 21, 3) := dk_159 0 21 (dk_at dksX1_finds_3 19 rfl rfl)
theorem dX1_finds_91 : decode cX1_finds 91 = .ok (.aload_n 0, 1) := dk_42 (dk_at dksX1_finds_3 22 rfl rfl)
theorem dX1_finds_92 : decode cX1_finds 92 = .ok (.iload_n 1, 1) := dk_27 (dk_at dksX1_finds_3 23 rfl rfl)
theorem dX1_finds_93 : decode cX1_finds 93 = .ok (.aload_n 0, 1) := dk_42 (dk_at dksX1_finds_4 0 rfl rfl)
theorem dX1_finds_94 : decode cX1_finds 94 = .ok (.getfield 31, 3) := dk_180 0 31 (dk_at dksX1_finds_4 1 rfl rfl)
theorem dX1_finds_97 : decode cX1_finds 97 = .ok (.iload 5, 2) := dk_21 5 (dk_at dksX1_finds_4 4 rfl rfl)
theorem dX1_finds_99 : decode cX1_finds 99 = .ok (.iaload, 1) := dk_46 (dk_at dksX1_finds_4 6 rfl rfl)
theorem dX1_finds_100 : decode cX1_finds 100 = .ok (.invokevirtual 208, 3) := dk_182 0 208 (dk_at dksX1_finds_4 7 rfl rfl)
theorem dX1_finds_103 : decode cX1_finds 103 = .ok (.ifCond .ne 6, 3) := dk_154 0 6 (dk_at dksX1_finds_4 10 rfl rfl)
theorem dX1_finds_106 : decode cX1_finds 106 = .ok (.goto 13, 3) := dk_167 0 13 (dk_at dksX1_finds_4 13 rfl rfl)
theorem dX1_finds_109 : decode cX1_finds 109 = .ok (.aload_n 0, 1) := dk_42 (dk_at dksX1_finds_4 16 rfl rfl)
theorem dX1_finds_110 : decode cX1_finds 110 = .ok (.getfield 31, 3) := dk_180 0 31 (dk_at dksX1_finds_4 17 rfl rfl)
theorem dX1_finds_113 : decode cX1_finds 113 = .ok (.iload 5, 2) := dk_21 5 (dk_at dksX1_finds_4 20 rfl rfl)
theorem dX1_finds_115 : decode cX1_finds 115 = .ok (.iload_n 2, 1) := dk_28 (dk_at dksX1_finds_4 22 rfl rfl)
theorem dX1_finds_116 : decode cX1_finds 116 = .ok (.iastore, 1) := dk_79 (dk_at dksX1_finds_4 23 rfl rfl)
theorem dX1_finds_117 : decode cX1_finds 117 = .ok (.iconst 1, 1) := dk_4 (dk_at dksX1_finds_5 0 rfl rfl)
theorem dX1_finds_118 : decode cX1_finds 118 = .ok (.ireturn, 1) := dk_172 (dk_at dksX1_finds_5 1 rfl rfl)
theorem dX1_finds_119 : decode cX1_finds 119 = .ok (.iinc 4 1, 3) := dk_132 4 1 (dk_at dksX1_finds_5 2 rfl rfl)
theorem dX1_finds_122 : decode cX1_finds 122 = .ok (.goto (-90), 3) := dk_167 255 166 (dk_at dksX1_finds_5 5 rfl rfl)
theorem dX1_finds_125 : decode cX1_finds 125 = .ok (.iinc 3 1, 3) := dk_132 3 1 (dk_at dksX1_finds_5 8 rfl rfl)
theorem dX1_finds_128 : decode cX1_finds 128 = .ok (.goto (-115), 3) := dk_167 255 141 (dk_at dksX1_finds_5 11 rfl rfl)
theorem dX1_finds_131 : decode cX1_finds 131 = .ok (.iconst 0, 1) := dk_3 (dk_at dksX1_finds_5 14 rfl rfl)
theorem dX1_finds_132 : decode cX1_finds 132 = .ok (.ireturn, 1) := dk_172 (dk_at dksX1_finds_5 15 rfl rfl)
abbrev cX1_room : ByteArray := prog_1_method_26_code
def yX1_room : MethodName := ⟨RX1, "room", "(LBreakSetter$Plan;I)I"⟩
def dkwX1_room_0 : List UInt8 := [16, 8, 3, 42, 180, 0, 76, 27, 46, 42, 180, 0, 88, 27, 46, 100, 184, 0, 70, 184, 0, 201, 172]
abbrev dktX1_room_0 : List UInt8 := dkwX1_room_0 ++ []
theorem dksX1_room_0 : cX1_room.data.toList.drop 0 = dktX1_room_0 := by decide +kernel
theorem dX1_room_0 : decode cX1_room 0 = .ok (.bipush 8, 2) := dk_16 8 (dk_at dksX1_room_0 0 rfl rfl)
theorem dX1_room_2 : decode cX1_room 2 = .ok (.iconst 0, 1) := dk_3 (dk_at dksX1_room_0 2 rfl rfl)
theorem dX1_room_3 : decode cX1_room 3 = .ok (.aload_n 0, 1) := dk_42 (dk_at dksX1_room_0 3 rfl rfl)
theorem dX1_room_4 : decode cX1_room 4 = .ok (.getfield 76, 3) := dk_180 0 76 (dk_at dksX1_room_0 4 rfl rfl)
theorem dX1_room_7 : decode cX1_room 7 = .ok (.iload_n 1, 1) := dk_27 (dk_at dksX1_room_0 7 rfl rfl)
theorem dX1_room_8 : decode cX1_room 8 = .ok (.iaload, 1) := dk_46 (dk_at dksX1_room_0 8 rfl rfl)
theorem dX1_room_9 : decode cX1_room 9 = .ok (.aload_n 0, 1) := dk_42 (dk_at dksX1_room_0 9 rfl rfl)
theorem dX1_room_10 : decode cX1_room 10 = .ok (.getfield 88, 3) := dk_180 0 88 (dk_at dksX1_room_0 10 rfl rfl)
theorem dX1_room_13 : decode cX1_room 13 = .ok (.iload_n 1, 1) := dk_27 (dk_at dksX1_room_0 13 rfl rfl)
theorem dX1_room_14 : decode cX1_room 14 = .ok (.iaload, 1) := dk_46 (dk_at dksX1_room_0 14 rfl rfl)
theorem dX1_room_15 : decode cX1_room 15 = .ok (.isub, 1) := dk_100 (dk_at dksX1_room_0 15 rfl rfl)
theorem dX1_room_16 : decode cX1_room 16 = .ok (.invokestatic 70, 3) := dk_184 0 70 (dk_at dksX1_room_0 16 rfl rfl)
theorem dX1_room_19 : decode cX1_room 19 = .ok (.invokestatic 201, 3) := dk_184 0 201 (dk_at dksX1_room_0 19 rfl rfl)
theorem dX1_room_22 : decode cX1_room 22 = .ok (.ireturn, 1) := dk_172 (dk_at dksX1_room_0 22 rfl rfl)
abbrev cX1_relief : ByteArray := prog_1_method_33_code
def yX1_relief : MethodName := ⟨RX1, "relief", "(II)I"⟩
def dkwX1_relief_6 : List UInt8 := [16, 9, 172, 21, 4, 42, 180, 0, 16, 180, 0, 146, 96, 54, 4, 21, 5, 62, 167, 255, 142, 29, 172]
abbrev dktX1_relief_6 : List UInt8 := dkwX1_relief_6 ++ []
def dkwX1_relief_5 : List UInt8 := [154, 0, 9, 132, 5, 1, 167, 255, 202, 21, 4, 42, 180, 0, 16, 180, 0, 146, 96, 28, 164, 0, 6]
abbrev dktX1_relief_5 : List UInt8 := dkwX1_relief_5 ++ dktX1_relief_6
def dkwX1_relief_4 : List UInt8 := [182, 0, 215, 160, 0, 22, 42, 21, 4, 42, 180, 0, 16, 180, 0, 146, 96, 21, 5, 182, 0, 224]
abbrev dktX1_relief_4 : List UInt8 := dkwX1_relief_4 ++ dktX1_relief_5
def dkwX1_relief_3 : List UInt8 := [29, 159, 0, 48, 42, 21, 4, 42, 180, 0, 16, 180, 0, 146, 96, 21, 5, 182, 0, 215, 42, 21, 4, 29]
abbrev dktX1_relief_3 : List UInt8 := dkwX1_relief_3 ++ dktX1_relief_4
def dkwX1_relief_2 : List UInt8 := [163, 0, 114, 42, 21, 4, 29, 182, 0, 224, 153, 0, 9, 132, 4, 1, 167, 255, 237, 3, 54, 5, 21, 5]
abbrev dktX1_relief_2 : List UInt8 := dkwX1_relief_2 ++ dktX1_relief_3
def dkwX1_relief_1 : List UInt8 := [182, 0, 221, 28, 2, 160, 0, 10, 42, 3, 27, 182, 0, 215, 172, 27, 62, 3, 54, 4, 21, 4, 28]
abbrev dktX1_relief_1 : List UInt8 := dkwX1_relief_1 ++ dktX1_relief_2
def dkwX1_relief_0 : List UInt8 := [42, 27, 182, 0, 169, 153, 0, 15, 28, 2, 159, 0, 12, 28, 184, 0, 172, 154, 0, 5, 2, 172, 42]
abbrev dktX1_relief_0 : List UInt8 := dkwX1_relief_0 ++ dktX1_relief_1
theorem dksX1_relief_0 : cX1_relief.data.toList.drop 0 = dktX1_relief_0 := by decide +kernel
theorem dksX1_relief_1 : cX1_relief.data.toList.drop 23 = dktX1_relief_1 := dk_seg dksX1_relief_0 23 rfl rfl
theorem dksX1_relief_2 : cX1_relief.data.toList.drop 46 = dktX1_relief_2 := dk_seg dksX1_relief_1 23 rfl rfl
theorem dksX1_relief_3 : cX1_relief.data.toList.drop 70 = dktX1_relief_3 := dk_seg dksX1_relief_2 24 rfl rfl
theorem dksX1_relief_4 : cX1_relief.data.toList.drop 94 = dktX1_relief_4 := dk_seg dksX1_relief_3 24 rfl rfl
theorem dksX1_relief_5 : cX1_relief.data.toList.drop 116 = dktX1_relief_5 := dk_seg dksX1_relief_4 22 rfl rfl
theorem dksX1_relief_6 : cX1_relief.data.toList.drop 139 = dktX1_relief_6 := dk_seg dksX1_relief_5 23 rfl rfl
theorem dX1_relief_0 : decode cX1_relief 0 = .ok (.aload_n 0, 1) := dk_42 (dk_at dksX1_relief_0 0 rfl rfl)
theorem dX1_relief_1 : decode cX1_relief 1 = .ok (.iload_n 1, 1) := dk_27 (dk_at dksX1_relief_0 1 rfl rfl)
theorem dX1_relief_2 : decode cX1_relief 2 = .ok (.invokevirtual 169, 3) := dk_182 0 169 (dk_at dksX1_relief_0 2 rfl rfl)
theorem dX1_relief_5 : decode cX1_relief 5 = .ok (.ifCond .eq 15, 3) := dk_153 0 15 (dk_at dksX1_relief_0 5 rfl rfl)
theorem dX1_relief_8 : decode cX1_relief 8 = .ok (.iload_n 2, 1) := dk_28 (dk_at dksX1_relief_0 8 rfl rfl)
theorem dX1_relief_9 : decode cX1_relief 9 = .ok (.iconst (-1), 1) := dk_2 (dk_at dksX1_relief_0 9 rfl rfl)
theorem dX1_relief_10 : decode cX1_relief 10 = .ok (.if_icmp .eq 12, 3) := dk_159 0 12 (dk_at dksX1_relief_0 10 rfl rfl)
theorem dX1_relief_13 : decode cX1_relief 13 = .ok (.iload_n 2, 1) := dk_28 (dk_at dksX1_relief_0 13 rfl rfl)
theorem dX1_relief_14 : decode cX1_relief 14 = .ok (.invokestatic 172, 3) := dk_184 0 172 (dk_at dksX1_relief_0 14 rfl rfl)
theorem dX1_relief_17 : decode cX1_relief 17 = .ok (.ifCond .ne 5, 3) := dk_154 0 5 (dk_at dksX1_relief_0 17 rfl rfl)
theorem dX1_relief_20 : decode cX1_relief 20 = .ok (.iconst (-1), 1) := dk_2 (dk_at dksX1_relief_0 20 rfl rfl)
theorem dX1_relief_21 : decode cX1_relief 21 = .ok (.ireturn, 1) := dk_172 (dk_at dksX1_relief_0 21 rfl rfl)
theorem dX1_relief_22 : decode cX1_relief 22 = .ok (.aload_n 0, 1) := dk_42 (dk_at dksX1_relief_0 22 rfl rfl)
theorem dX1_relief_23 : decode cX1_relief 23 = .ok (.invokevirtual 221, 3) := dk_182 0 221 (dk_at dksX1_relief_1 0 rfl rfl)
theorem dX1_relief_26 : decode cX1_relief 26 = .ok (.iload_n 2, 1) := dk_28 (dk_at dksX1_relief_1 3 rfl rfl)
theorem dX1_relief_27 : decode cX1_relief 27 = .ok (.iconst (-1), 1) := dk_2 (dk_at dksX1_relief_1 4 rfl rfl)
theorem dX1_relief_28 : decode cX1_relief 28 = .ok (.if_icmp .ne 10, 3) := dk_160 0 10 (dk_at dksX1_relief_1 5 rfl rfl)
theorem dX1_relief_31 : decode cX1_relief 31 = .ok (.aload_n 0, 1) := dk_42 (dk_at dksX1_relief_1 8 rfl rfl)
theorem dX1_relief_32 : decode cX1_relief 32 = .ok (.iconst 0, 1) := dk_3 (dk_at dksX1_relief_1 9 rfl rfl)
theorem dX1_relief_33 : decode cX1_relief 33 = .ok (.iload_n 1, 1) := dk_27 (dk_at dksX1_relief_1 10 rfl rfl)
theorem dX1_relief_34 : decode cX1_relief 34 = .ok (.invokevirtual 215, 3) := dk_182 0 215 (dk_at dksX1_relief_1 11 rfl rfl)
theorem dX1_relief_37 : decode cX1_relief 37 = .ok (.ireturn, 1) := dk_172 (dk_at dksX1_relief_1 14 rfl rfl)
theorem dX1_relief_38 : decode cX1_relief 38 = .ok (.iload_n 1, 1) := dk_27 (dk_at dksX1_relief_1 15 rfl rfl)
theorem dX1_relief_39 : decode cX1_relief 39 = .ok (.istore_n 3, 1) := dk_62 (dk_at dksX1_relief_1 16 rfl rfl)
theorem dX1_relief_40 : decode cX1_relief 40 = .ok (.iconst 0, 1) := dk_3 (dk_at dksX1_relief_1 17 rfl rfl)
theorem dX1_relief_41 : decode cX1_relief 41 = .ok (.istore 4, 2) := dk_54 4 (dk_at dksX1_relief_1 18 rfl rfl)
theorem dX1_relief_43 : decode cX1_relief 43 = .ok (.iload 4, 2) := dk_21 4 (dk_at dksX1_relief_1 20 rfl rfl)
theorem dX1_relief_45 : decode cX1_relief 45 = .ok (.iload_n 2, 1) := dk_28 (dk_at dksX1_relief_1 22 rfl rfl)
theorem dX1_relief_46 : decode cX1_relief 46 = .ok (.if_icmp .gt 114, 3) := dk_163 0 114 (dk_at dksX1_relief_2 0 rfl rfl)
theorem dX1_relief_49 : decode cX1_relief 49 = .ok (.aload_n 0, 1) := dk_42 (dk_at dksX1_relief_2 3 rfl rfl)
theorem dX1_relief_50 : decode cX1_relief 50 = .ok (.iload 4, 2) := dk_21 4 (dk_at dksX1_relief_2 4 rfl rfl)
theorem dX1_relief_52 : decode cX1_relief 52 = .ok (.iload_n 3, 1) := dk_29 (dk_at dksX1_relief_2 6 rfl rfl)
theorem dX1_relief_53 : decode cX1_relief 53 = .ok (.invokevirtual 224, 3) := dk_182 0 224 (dk_at dksX1_relief_2 7 rfl rfl)
theorem dX1_relief_56 : decode cX1_relief 56 = .ok (.ifCond .eq 9, 3) := dk_153 0 9 (dk_at dksX1_relief_2 10 rfl rfl)
theorem dX1_relief_59 : decode cX1_relief 59 = .ok (.iinc 4 1, 3) := dk_132 4 1 (dk_at dksX1_relief_2 13 rfl rfl)
theorem dX1_relief_62 : decode cX1_relief 62 = .ok (.goto (-19), 3) := dk_167 255 237 (dk_at dksX1_relief_2 16 rfl rfl)
theorem dX1_relief_65 : decode cX1_relief 65 = .ok (.iconst 0, 1) := dk_3 (dk_at dksX1_relief_2 19 rfl rfl)
theorem dX1_relief_66 : decode cX1_relief 66 = .ok (.istore 5, 2) := dk_54 5 (dk_at dksX1_relief_2 20 rfl rfl)
theorem dX1_relief_68 : decode cX1_relief 68 = .ok (.iload 5, 2) := dk_21 5 (dk_at dksX1_relief_2 22 rfl rfl)
theorem dX1_relief_70 : decode cX1_relief 70 = .ok (.iload_n 3, 1) := dk_29 (dk_at dksX1_relief_3 0 rfl rfl)
theorem dX1_relief_71 : decode cX1_relief 71 = .ok (.if_icmp .eq 48, 3) := dk_159 0 48 (dk_at dksX1_relief_3 1 rfl rfl)
theorem dX1_relief_74 : decode cX1_relief 74 = .ok (.aload_n 0, 1) := dk_42 (dk_at dksX1_relief_3 4 rfl rfl)
theorem dX1_relief_75 : decode cX1_relief 75 = .ok (.iload 4, 2) := dk_21 4 (dk_at dksX1_relief_3 5 rfl rfl)
theorem dX1_relief_77 : decode cX1_relief 77 = .ok (.aload_n 0, 1) := dk_42 (dk_at dksX1_relief_3 7 rfl rfl)
theorem dX1_relief_78 : decode cX1_relief 78 = .ok (.getfield 16, 3) := dk_180 0 16 (dk_at dksX1_relief_3 8 rfl rfl)
theorem dX1_relief_81 : decode cX1_relief 81 = .ok (.getfield 146, 3) := dk_180 0 146 (dk_at dksX1_relief_3 11 rfl rfl)
theorem dX1_relief_84 : decode cX1_relief 84 = .ok (.iadd, 1) := dk_96 (dk_at dksX1_relief_3 14 rfl rfl)
theorem dX1_relief_85 : decode cX1_relief 85 = .ok (.iload 5, 2) := dk_21 5 (dk_at dksX1_relief_3 15 rfl rfl)
theorem dX1_relief_87 : decode cX1_relief 87 = .ok (.invokevirtual 215, 3) := dk_182 0 215 (dk_at dksX1_relief_3 17 rfl rfl)
theorem dX1_relief_90 : decode cX1_relief 90 = .ok (.aload_n 0, 1) := dk_42 (dk_at dksX1_relief_3 20 rfl rfl)
theorem dX1_relief_91 : decode cX1_relief 91 = .ok (.iload 4, 2) := dk_21 4 (dk_at dksX1_relief_3 21 rfl rfl)
theorem dX1_relief_93 : decode cX1_relief 93 = .ok (.iload_n 3, 1) := dk_29 (dk_at dksX1_relief_3 23 rfl rfl)
theorem dX1_relief_94 : decode cX1_relief 94 = .ok (.invokevirtual 215, 3) := dk_182 0 215 (dk_at dksX1_relief_4 0 rfl rfl)
theorem dX1_relief_97 : decode cX1_relief 97 = .ok (.if_icmp .ne 22, 3) := dk_160 0 22 (dk_at dksX1_relief_4 3 rfl rfl)
theorem dX1_relief_100 : decode cX1_relief 100 = .ok (.aload_n 0, 1) := dk_42 (dk_at dksX1_relief_4 6 rfl rfl)
theorem dX1_relief_101 : decode cX1_relief 101 = .ok (.iload 4, 2) := dk_21 4 (dk_at dksX1_relief_4 7 rfl rfl)
theorem dX1_relief_103 : decode cX1_relief 103 = .ok (.aload_n 0, 1) := dk_42 (dk_at dksX1_relief_4 9 rfl rfl)
theorem dX1_relief_104 : decode cX1_relief 104 = .ok (.getfield 16, 3) := dk_180 0 16 (dk_at dksX1_relief_4 10 rfl rfl)
theorem dX1_relief_107 : decode cX1_relief 107 = .ok (.getfield 146, 3) := dk_180 0 146 (dk_at dksX1_relief_4 13 rfl rfl)
theorem dX1_relief_110 : decode cX1_relief 110 = .ok (.iadd, 1) := dk_96 (dk_at dksX1_relief_4 16 rfl rfl)
theorem dX1_relief_111 : decode cX1_relief 111 = .ok (.iload 5, 2) := dk_21 5 (dk_at dksX1_relief_4 17 rfl rfl)
theorem dX1_relief_113 : decode cX1_relief 113 = .ok (.invokevirtual 224, 3) := dk_182 0 224 (dk_at dksX1_relief_4 19 rfl rfl)
theorem dX1_relief_116 : decode cX1_relief 116 = .ok (.ifCond .ne 9, 3) := dk_154 0 9 (dk_at dksX1_relief_5 0 rfl rfl)
theorem dX1_relief_119 : decode cX1_relief 119 = .ok (.iinc 5 1, 3) := dk_132 5 1 (dk_at dksX1_relief_5 3 rfl rfl)
theorem dX1_relief_122 : decode cX1_relief 122 = .ok (.goto (-54), 3) := dk_167 255 202 (dk_at dksX1_relief_5 6 rfl rfl)
theorem dX1_relief_125 : decode cX1_relief 125 = .ok (.iload 4, 2) := dk_21 4 (dk_at dksX1_relief_5 9 rfl rfl)
theorem dX1_relief_127 : decode cX1_relief 127 = .ok (.aload_n 0, 1) := dk_42 (dk_at dksX1_relief_5 11 rfl rfl)
theorem dX1_relief_128 : decode cX1_relief 128 = .ok (.getfield 16, 3) := dk_180 0 16 (dk_at dksX1_relief_5 12 rfl rfl)
theorem dX1_relief_131 : decode cX1_relief 131 = .ok (.getfield 146, 3) := dk_180 0 146 (dk_at dksX1_relief_5 15 rfl rfl)
theorem dX1_relief_134 : decode cX1_relief 134 = .ok (.iadd, 1) := dk_96 (dk_at dksX1_relief_5 18 rfl rfl)
theorem dX1_relief_135 : decode cX1_relief 135 = .ok (.iload_n 2, 1) := dk_28 (dk_at dksX1_relief_5 19 rfl rfl)
theorem dX1_relief_136 : decode cX1_relief 136 = .ok (.if_icmp .le 6, 3) := dk_164 0 6 (dk_at dksX1_relief_5 20 rfl rfl)
theorem dX1_relief_139 : decode cX1_relief 139 = .ok (.bipush 9, 2) := dk_16 9 (dk_at dksX1_relief_6 0 rfl rfl)
theorem dX1_relief_141 : decode cX1_relief 141 = .ok (.ireturn, 1) := dk_172 (dk_at dksX1_relief_6 2 rfl rfl)
theorem dX1_relief_142 : decode cX1_relief 142 = .ok (.iload 4, 2) := dk_21 4 (dk_at dksX1_relief_6 3 rfl rfl)
theorem dX1_relief_144 : decode cX1_relief 144 = .ok (.aload_n 0, 1) := dk_42 (dk_at dksX1_relief_6 5 rfl rfl)
theorem dX1_relief_145 : decode cX1_relief 145 = .ok (.getfield 16, 3) := dk_180 0 16 (dk_at dksX1_relief_6 6 rfl rfl)
theorem dX1_relief_148 : decode cX1_relief 148 = .ok (.getfield 146, 3) := dk_180 0 146 (dk_at dksX1_relief_6 9 rfl rfl)
theorem dX1_relief_151 : decode cX1_relief 151 = .ok (.iadd, 1) := dk_96 (dk_at dksX1_relief_6 12 rfl rfl)
theorem dX1_relief_152 : decode cX1_relief 152 = .ok (.istore 4, 2) := dk_54 4 (dk_at dksX1_relief_6 13 rfl rfl)
theorem dX1_relief_154 : decode cX1_relief 154 = .ok (.iload 5, 2) := dk_21 5 (dk_at dksX1_relief_6 15 rfl rfl)
theorem dX1_relief_156 : decode cX1_relief 156 = .ok (.istore_n 3, 1) := dk_62 (dk_at dksX1_relief_6 17 rfl rfl)
theorem dX1_relief_157 : decode cX1_relief 157 = .ok (.goto (-114), 3) := dk_167 255 142 (dk_at dksX1_relief_6 18 rfl rfl)
theorem dX1_relief_160 : decode cX1_relief 160 = .ok (.iload_n 3, 1) := dk_29 (dk_at dksX1_relief_6 21 rfl rfl)
theorem dX1_relief_161 : decode cX1_relief 161 = .ok (.ireturn, 1) := dk_172 (dk_at dksX1_relief_6 22 rfl rfl)
abbrev cX1_laysHelps : ByteArray := prog_1_method_32_code
def yX1_laysHelps : MethodName := ⟨RX1, "laysHelps", "()V"⟩
def dkwX1_laysHelps_5 : List UInt8 := [132, 2, 1, 167, 255, 177, 132, 1, 255, 167, 255, 165, 177]
abbrev dktX1_laysHelps_5 : List UInt8 := dkwX1_laysHelps_5 ++ []
def dkwX1_laysHelps_4 : List UInt8 := [182, 0, 215, 184, 0, 70, 62, 132, 4, 1, 167, 255, 215, 42, 180, 0, 38, 6, 27, 104, 28, 96, 29, 79]
abbrev dktX1_laysHelps_4 : List UInt8 := dkwX1_laysHelps_4 ++ dktX1_laysHelps_5
def dkwX1_laysHelps_3 : List UInt8 := [162, 0, 35, 21, 4, 28, 159, 0, 23, 29, 42, 27, 42, 180, 0, 16, 180, 0, 146, 96, 21, 4]
abbrev dktX1_laysHelps_3 : List UInt8 := dkwX1_laysHelps_3 ++ dktX1_laysHelps_4
def dkwX1_laysHelps_2 : List UInt8 := [162, 0, 74, 42, 27, 28, 182, 0, 218, 62, 3, 54, 4, 21, 4, 42, 180, 0, 16, 180, 0, 60]
abbrev dktX1_laysHelps_2 : List UInt8 := dkwX1_laysHelps_2 ++ dktX1_laysHelps_3
def dkwX1_laysHelps_1 : List UInt8 := [132, 1, 1, 167, 255, 237, 16, 47, 60, 27, 155, 0, 93, 3, 61, 28, 42, 180, 0, 16, 180, 0, 60]
abbrev dktX1_laysHelps_1 : List UInt8 := dkwX1_laysHelps_1 ++ dktX1_laysHelps_2
def dkwX1_laysHelps_0 : List UInt8 := [42, 182, 0, 143, 3, 60, 27, 6, 162, 0, 20, 42, 180, 0, 38, 17, 0, 144, 27, 96, 3, 79]
abbrev dktX1_laysHelps_0 : List UInt8 := dkwX1_laysHelps_0 ++ dktX1_laysHelps_1
theorem dksX1_laysHelps_0 : cX1_laysHelps.data.toList.drop 0 = dktX1_laysHelps_0 := by decide +kernel
theorem dksX1_laysHelps_1 : cX1_laysHelps.data.toList.drop 22 = dktX1_laysHelps_1 := dk_seg dksX1_laysHelps_0 22 rfl rfl
theorem dksX1_laysHelps_2 : cX1_laysHelps.data.toList.drop 45 = dktX1_laysHelps_2 := dk_seg dksX1_laysHelps_1 23 rfl rfl
theorem dksX1_laysHelps_3 : cX1_laysHelps.data.toList.drop 67 = dktX1_laysHelps_3 := dk_seg dksX1_laysHelps_2 22 rfl rfl
theorem dksX1_laysHelps_4 : cX1_laysHelps.data.toList.drop 89 = dktX1_laysHelps_4 := dk_seg dksX1_laysHelps_3 22 rfl rfl
theorem dksX1_laysHelps_5 : cX1_laysHelps.data.toList.drop 113 = dktX1_laysHelps_5 := dk_seg dksX1_laysHelps_4 24 rfl rfl
theorem dX1_laysHelps_0 : decode cX1_laysHelps 0 = .ok (.aload_n 0, 1) := dk_42 (dk_at dksX1_laysHelps_0 0 rfl rfl)
theorem dX1_laysHelps_1 : decode cX1_laysHelps 1 = .ok (.invokevirtual 143, 3) := dk_182 0 143 (dk_at dksX1_laysHelps_0 1 rfl rfl)
theorem dX1_laysHelps_4 : decode cX1_laysHelps 4 = .ok (.iconst 0, 1) := dk_3 (dk_at dksX1_laysHelps_0 4 rfl rfl)
theorem dX1_laysHelps_5 : decode cX1_laysHelps 5 = .ok (.istore_n 1, 1) := dk_60 (dk_at dksX1_laysHelps_0 5 rfl rfl)
theorem dX1_laysHelps_6 : decode cX1_laysHelps 6 = .ok (.iload_n 1, 1) := dk_27 (dk_at dksX1_laysHelps_0 6 rfl rfl)
theorem dX1_laysHelps_7 : decode cX1_laysHelps 7 = .ok (.iconst 3, 1) := dk_6 (dk_at dksX1_laysHelps_0 7 rfl rfl)
theorem dX1_laysHelps_8 : decode cX1_laysHelps 8 = .ok (.if_icmp .ge 20, 3) := dk_162 0 20 (dk_at dksX1_laysHelps_0 8 rfl rfl)
theorem dX1_laysHelps_11 : decode cX1_laysHelps 11 = .ok (.aload_n 0, 1) := dk_42 (dk_at dksX1_laysHelps_0 11 rfl rfl)
theorem dX1_laysHelps_12 : decode cX1_laysHelps 12 = .ok (.getfield 38, 3) := dk_180 0 38 (dk_at dksX1_laysHelps_0 12 rfl rfl)
theorem dX1_laysHelps_15 : decode cX1_laysHelps 15 = .ok (.sipush 144, 3) := dk_17 0 144 (dk_at dksX1_laysHelps_0 15 rfl rfl)
theorem dX1_laysHelps_18 : decode cX1_laysHelps 18 = .ok (.iload_n 1, 1) := dk_27 (dk_at dksX1_laysHelps_0 18 rfl rfl)
theorem dX1_laysHelps_19 : decode cX1_laysHelps 19 = .ok (.iadd, 1) := dk_96 (dk_at dksX1_laysHelps_0 19 rfl rfl)
theorem dX1_laysHelps_20 : decode cX1_laysHelps 20 = .ok (.iconst 0, 1) := dk_3 (dk_at dksX1_laysHelps_0 20 rfl rfl)
theorem dX1_laysHelps_21 : decode cX1_laysHelps 21 = .ok (.iastore, 1) := dk_79 (dk_at dksX1_laysHelps_0 21 rfl rfl)
theorem dX1_laysHelps_22 : decode cX1_laysHelps 22 = .ok (.iinc 1 1, 3) := dk_132 1 1 (dk_at dksX1_laysHelps_1 0 rfl rfl)
theorem dX1_laysHelps_25 : decode cX1_laysHelps 25 = .ok (.goto (-19), 3) := dk_167 255 237 (dk_at dksX1_laysHelps_1 3 rfl rfl)
theorem dX1_laysHelps_28 : decode cX1_laysHelps 28 = .ok (.bipush 47, 2) := dk_16 47 (dk_at dksX1_laysHelps_1 6 rfl rfl)
theorem dX1_laysHelps_30 : decode cX1_laysHelps 30 = .ok (.istore_n 1, 1) := dk_60 (dk_at dksX1_laysHelps_1 8 rfl rfl)
theorem dX1_laysHelps_31 : decode cX1_laysHelps 31 = .ok (.iload_n 1, 1) := dk_27 (dk_at dksX1_laysHelps_1 9 rfl rfl)
theorem dX1_laysHelps_32 : decode cX1_laysHelps 32 = .ok (.ifCond .lt 93, 3) := dk_155 0 93 (dk_at dksX1_laysHelps_1 10 rfl rfl)
theorem dX1_laysHelps_35 : decode cX1_laysHelps 35 = .ok (.iconst 0, 1) := dk_3 (dk_at dksX1_laysHelps_1 13 rfl rfl)
theorem dX1_laysHelps_36 : decode cX1_laysHelps 36 = .ok (.istore_n 2, 1) := dk_61 (dk_at dksX1_laysHelps_1 14 rfl rfl)
theorem dX1_laysHelps_37 : decode cX1_laysHelps 37 = .ok (.iload_n 2, 1) := dk_28 (dk_at dksX1_laysHelps_1 15 rfl rfl)
theorem dX1_laysHelps_38 : decode cX1_laysHelps 38 = .ok (.aload_n 0, 1) := dk_42 (dk_at dksX1_laysHelps_1 16 rfl rfl)
theorem dX1_laysHelps_39 : decode cX1_laysHelps 39 = .ok (.getfield 16, 3) := dk_180 0 16 (dk_at dksX1_laysHelps_1 17 rfl rfl)
theorem dX1_laysHelps_42 : decode cX1_laysHelps 42 = .ok (.getfield 60, 3) := dk_180 0 60 (dk_at dksX1_laysHelps_1 20 rfl rfl)
theorem dX1_laysHelps_45 : decode cX1_laysHelps 45 = .ok (.if_icmp .ge 74, 3) := dk_162 0 74 (dk_at dksX1_laysHelps_2 0 rfl rfl)
theorem dX1_laysHelps_48 : decode cX1_laysHelps 48 = .ok (.aload_n 0, 1) := dk_42 (dk_at dksX1_laysHelps_2 3 rfl rfl)
theorem dX1_laysHelps_49 : decode cX1_laysHelps 49 = .ok (.iload_n 1, 1) := dk_27 (dk_at dksX1_laysHelps_2 4 rfl rfl)
theorem dX1_laysHelps_50 : decode cX1_laysHelps 50 = .ok (.iload_n 2, 1) := dk_28 (dk_at dksX1_laysHelps_2 5 rfl rfl)
theorem dX1_laysHelps_51 : decode cX1_laysHelps 51 = .ok (.invokevirtual 218, 3) := dk_182 0 218 (dk_at dksX1_laysHelps_2 6 rfl rfl)
theorem dX1_laysHelps_54 : decode cX1_laysHelps 54 = .ok (.istore_n 3, 1) := dk_62 (dk_at dksX1_laysHelps_2 9 rfl rfl)
theorem dX1_laysHelps_55 : decode cX1_laysHelps 55 = .ok (.iconst 0, 1) := dk_3 (dk_at dksX1_laysHelps_2 10 rfl rfl)
theorem dX1_laysHelps_56 : decode cX1_laysHelps 56 = .ok (.istore 4, 2) := dk_54 4 (dk_at dksX1_laysHelps_2 11 rfl rfl)
theorem dX1_laysHelps_58 : decode cX1_laysHelps 58 = .ok (.iload 4, 2) := dk_21 4 (dk_at dksX1_laysHelps_2 13 rfl rfl)
theorem dX1_laysHelps_60 : decode cX1_laysHelps 60 = .ok (.aload_n 0, 1) := dk_42 (dk_at dksX1_laysHelps_2 15 rfl rfl)
theorem dX1_laysHelps_61 : decode cX1_laysHelps 61 = .ok (.getfield 16, 3) := dk_180 0 16 (dk_at dksX1_laysHelps_2 16 rfl rfl)
theorem dX1_laysHelps_64 : decode cX1_laysHelps 64 = .ok (.getfield 60, 3) := dk_180 0 60 (dk_at dksX1_laysHelps_2 19 rfl rfl)
theorem dX1_laysHelps_67 : decode cX1_laysHelps 67 = .ok (.if_icmp .ge 35, 3) := dk_162 0 35 (dk_at dksX1_laysHelps_3 0 rfl rfl)
theorem dX1_laysHelps_70 : decode cX1_laysHelps 70 = .ok (.iload 4, 2) := dk_21 4 (dk_at dksX1_laysHelps_3 3 rfl rfl)
theorem dX1_laysHelps_72 : decode cX1_laysHelps 72 = .ok (.iload_n 2, 1) := dk_28 (dk_at dksX1_laysHelps_3 5 rfl rfl)
theorem dX1_laysHelps_73 : decode cX1_laysHelps 73 = .ok (.if_icmp .eq 23, 3) := dk_159 0 23 (dk_at dksX1_laysHelps_3 6 rfl rfl)
theorem dX1_laysHelps_76 : decode cX1_laysHelps 76 = .ok (.iload_n 3, 1) := dk_29 (dk_at dksX1_laysHelps_3 9 rfl rfl)
theorem dX1_laysHelps_77 : decode cX1_laysHelps 77 = .ok (.aload_n 0, 1) := dk_42 (dk_at dksX1_laysHelps_3 10 rfl rfl)
theorem dX1_laysHelps_78 : decode cX1_laysHelps 78 = .ok (.iload_n 1, 1) := dk_27 (dk_at dksX1_laysHelps_3 11 rfl rfl)
theorem dX1_laysHelps_79 : decode cX1_laysHelps 79 = .ok (.aload_n 0, 1) := dk_42 (dk_at dksX1_laysHelps_3 12 rfl rfl)
theorem dX1_laysHelps_80 : decode cX1_laysHelps 80 = .ok (.getfield 16, 3) := dk_180 0 16 (dk_at dksX1_laysHelps_3 13 rfl rfl)
theorem dX1_laysHelps_83 : decode cX1_laysHelps 83 = .ok (.getfield 146, 3) := dk_180 0 146 (dk_at dksX1_laysHelps_3 16 rfl rfl)
theorem dX1_laysHelps_86 : decode cX1_laysHelps 86 = .ok (.iadd, 1) := dk_96 (dk_at dksX1_laysHelps_3 19 rfl rfl)
theorem dX1_laysHelps_87 : decode cX1_laysHelps 87 = .ok (.iload 4, 2) := dk_21 4 (dk_at dksX1_laysHelps_3 20 rfl rfl)
theorem dX1_laysHelps_89 : decode cX1_laysHelps 89 = .ok (.invokevirtual 215, 3) := dk_182 0 215 (dk_at dksX1_laysHelps_4 0 rfl rfl)
theorem dX1_laysHelps_92 : decode cX1_laysHelps 92 = .ok (.invokestatic 70, 3) := dk_184 0 70 (dk_at dksX1_laysHelps_4 3 rfl rfl)
theorem dX1_laysHelps_95 : decode cX1_laysHelps 95 = .ok (.istore_n 3, 1) := dk_62 (dk_at dksX1_laysHelps_4 6 rfl rfl)
theorem dX1_laysHelps_96 : decode cX1_laysHelps 96 = .ok (.iinc 4 1, 3) := dk_132 4 1 (dk_at dksX1_laysHelps_4 7 rfl rfl)
theorem dX1_laysHelps_99 : decode cX1_laysHelps 99 = .ok (.goto (-41), 3) := dk_167 255 215 (dk_at dksX1_laysHelps_4 10 rfl rfl)
theorem dX1_laysHelps_102 : decode cX1_laysHelps 102 = .ok (.aload_n 0, 1) := dk_42 (dk_at dksX1_laysHelps_4 13 rfl rfl)
theorem dX1_laysHelps_103 : decode cX1_laysHelps 103 = .ok (.getfield 38, 3) := dk_180 0 38 (dk_at dksX1_laysHelps_4 14 rfl rfl)
theorem dX1_laysHelps_106 : decode cX1_laysHelps 106 = .ok (.iconst 3, 1) := dk_6 (dk_at dksX1_laysHelps_4 17 rfl rfl)
theorem dX1_laysHelps_107 : decode cX1_laysHelps 107 = .ok (.iload_n 1, 1) := dk_27 (dk_at dksX1_laysHelps_4 18 rfl rfl)
theorem dX1_laysHelps_108 : decode cX1_laysHelps 108 = .ok (.imul, 1) := dk_104 (dk_at dksX1_laysHelps_4 19 rfl rfl)
theorem dX1_laysHelps_109 : decode cX1_laysHelps 109 = .ok (.iload_n 2, 1) := dk_28 (dk_at dksX1_laysHelps_4 20 rfl rfl)
theorem dX1_laysHelps_110 : decode cX1_laysHelps 110 = .ok (.iadd, 1) := dk_96 (dk_at dksX1_laysHelps_4 21 rfl rfl)
theorem dX1_laysHelps_111 : decode cX1_laysHelps 111 = .ok (.iload_n 3, 1) := dk_29 (dk_at dksX1_laysHelps_4 22 rfl rfl)
theorem dX1_laysHelps_112 : decode cX1_laysHelps 112 = .ok (.iastore, 1) := dk_79 (dk_at dksX1_laysHelps_4 23 rfl rfl)
theorem dX1_laysHelps_113 : decode cX1_laysHelps 113 = .ok (.iinc 2 1, 3) := dk_132 2 1 (dk_at dksX1_laysHelps_5 0 rfl rfl)
theorem dX1_laysHelps_116 : decode cX1_laysHelps 116 = .ok (.goto (-79), 3) := dk_167 255 177 (dk_at dksX1_laysHelps_5 3 rfl rfl)
theorem dX1_laysHelps_119 : decode cX1_laysHelps 119 = .ok (.iinc 1 (-1), 3) := dk_132 1 255 (dk_at dksX1_laysHelps_5 6 rfl rfl)
theorem dX1_laysHelps_122 : decode cX1_laysHelps 122 = .ok (.goto (-91), 3) := dk_167 255 165 (dk_at dksX1_laysHelps_5 9 rfl rfl)
theorem dX1_laysHelps_125 : decode cX1_laysHelps 125 = .ok (.return_, 1) := dk_177 (dk_at dksX1_laysHelps_5 12 rfl rfl)
abbrev cX1_byStaying : ByteArray := prog_1_method_30_code
def yX1_byStaying : MethodName := ⟨RX1, "byStaying", "(II)I"⟩
def dkwX1_byStaying_1 : List UInt8 := [184, 0, 91, 158, 0, 7, 4, 167, 0, 4, 3, 42, 27, 4, 96, 28, 182, 0, 215, 96, 172]
abbrev dktX1_byStaying_1 : List UInt8 := dkwX1_byStaying_1 ++ []
def dkwX1_byStaying_0 : List UInt8 := [16, 48, 28, 104, 27, 96, 62, 42, 180, 0, 16, 180, 0, 88, 29, 46, 42, 180, 0, 28, 29, 46]
abbrev dktX1_byStaying_0 : List UInt8 := dkwX1_byStaying_0 ++ dktX1_byStaying_1
theorem dksX1_byStaying_0 : cX1_byStaying.data.toList.drop 0 = dktX1_byStaying_0 := by decide +kernel
theorem dksX1_byStaying_1 : cX1_byStaying.data.toList.drop 22 = dktX1_byStaying_1 := dk_seg dksX1_byStaying_0 22 rfl rfl
theorem dX1_byStaying_0 : decode cX1_byStaying 0 = .ok (.bipush 48, 2) := dk_16 48 (dk_at dksX1_byStaying_0 0 rfl rfl)
theorem dX1_byStaying_2 : decode cX1_byStaying 2 = .ok (.iload_n 2, 1) := dk_28 (dk_at dksX1_byStaying_0 2 rfl rfl)
theorem dX1_byStaying_3 : decode cX1_byStaying 3 = .ok (.imul, 1) := dk_104 (dk_at dksX1_byStaying_0 3 rfl rfl)
theorem dX1_byStaying_4 : decode cX1_byStaying 4 = .ok (.iload_n 1, 1) := dk_27 (dk_at dksX1_byStaying_0 4 rfl rfl)
theorem dX1_byStaying_5 : decode cX1_byStaying 5 = .ok (.iadd, 1) := dk_96 (dk_at dksX1_byStaying_0 5 rfl rfl)
theorem dX1_byStaying_6 : decode cX1_byStaying 6 = .ok (.istore_n 3, 1) := dk_62 (dk_at dksX1_byStaying_0 6 rfl rfl)
theorem dX1_byStaying_7 : decode cX1_byStaying 7 = .ok (.aload_n 0, 1) := dk_42 (dk_at dksX1_byStaying_0 7 rfl rfl)
theorem dX1_byStaying_8 : decode cX1_byStaying 8 = .ok (.getfield 16, 3) := dk_180 0 16 (dk_at dksX1_byStaying_0 8 rfl rfl)
theorem dX1_byStaying_11 : decode cX1_byStaying 11 = .ok (.getfield 88, 3) := dk_180 0 88 (dk_at dksX1_byStaying_0 11 rfl rfl)
theorem dX1_byStaying_14 : decode cX1_byStaying 14 = .ok (.iload_n 3, 1) := dk_29 (dk_at dksX1_byStaying_0 14 rfl rfl)
theorem dX1_byStaying_15 : decode cX1_byStaying 15 = .ok (.iaload, 1) := dk_46 (dk_at dksX1_byStaying_0 15 rfl rfl)
theorem dX1_byStaying_16 : decode cX1_byStaying 16 = .ok (.aload_n 0, 1) := dk_42 (dk_at dksX1_byStaying_0 16 rfl rfl)
theorem dX1_byStaying_17 : decode cX1_byStaying 17 = .ok (.getfield 28, 3) := dk_180 0 28 (dk_at dksX1_byStaying_0 17 rfl rfl)
theorem dX1_byStaying_20 : decode cX1_byStaying 20 = .ok (.iload_n 3, 1) := dk_29 (dk_at dksX1_byStaying_0 20 rfl rfl)
theorem dX1_byStaying_21 : decode cX1_byStaying 21 = .ok (.iaload, 1) := dk_46 (dk_at dksX1_byStaying_0 21 rfl rfl)
theorem dX1_byStaying_22 : decode cX1_byStaying 22 = .ok (.invokestatic 91, 3) := dk_184 0 91 (dk_at dksX1_byStaying_1 0 rfl rfl)
theorem dX1_byStaying_25 : decode cX1_byStaying 25 = .ok (.ifCond .le 7, 3) := dk_158 0 7 (dk_at dksX1_byStaying_1 3 rfl rfl)
theorem dX1_byStaying_28 : decode cX1_byStaying 28 = .ok (.iconst 1, 1) := dk_4 (dk_at dksX1_byStaying_1 6 rfl rfl)
theorem dX1_byStaying_29 : decode cX1_byStaying 29 = .ok (.goto 4, 3) := dk_167 0 4 (dk_at dksX1_byStaying_1 7 rfl rfl)
theorem dX1_byStaying_32 : decode cX1_byStaying 32 = .ok (.iconst 0, 1) := dk_3 (dk_at dksX1_byStaying_1 10 rfl rfl)
theorem dX1_byStaying_33 : decode cX1_byStaying 33 = .ok (.aload_n 0, 1) := dk_42 (dk_at dksX1_byStaying_1 11 rfl rfl)
theorem dX1_byStaying_34 : decode cX1_byStaying 34 = .ok (.iload_n 1, 1) := dk_27 (dk_at dksX1_byStaying_1 12 rfl rfl)
theorem dX1_byStaying_35 : decode cX1_byStaying 35 = .ok (.iconst 1, 1) := dk_4 (dk_at dksX1_byStaying_1 13 rfl rfl)
theorem dX1_byStaying_36 : decode cX1_byStaying 36 = .ok (.iadd, 1) := dk_96 (dk_at dksX1_byStaying_1 14 rfl rfl)
theorem dX1_byStaying_37 : decode cX1_byStaying 37 = .ok (.iload_n 2, 1) := dk_28 (dk_at dksX1_byStaying_1 15 rfl rfl)
theorem dX1_byStaying_38 : decode cX1_byStaying 38 = .ok (.invokevirtual 215, 3) := dk_182 0 215 (dk_at dksX1_byStaying_1 16 rfl rfl)
theorem dX1_byStaying_41 : decode cX1_byStaying 41 = .ok (.iadd, 1) := dk_96 (dk_at dksX1_byStaying_1 19 rfl rfl)
theorem dX1_byStaying_42 : decode cX1_byStaying 42 = .ok (.ireturn, 1) := dk_172 (dk_at dksX1_byStaying_1 20 rfl rfl)
abbrev cX1_helpsFrom : ByteArray := prog_1_method_29_code
def yX1_helpsFrom : MethodName := ⟨RX1, "helpsFrom", "(II)I"⟩
def dkwX1_helpsFrom_0 : List UInt8 := [42, 180, 0, 38, 6, 16, 48, 27, 184, 0, 201, 104, 28, 96, 46, 172]
abbrev dktX1_helpsFrom_0 : List UInt8 := dkwX1_helpsFrom_0 ++ []
theorem dksX1_helpsFrom_0 : cX1_helpsFrom.data.toList.drop 0 = dktX1_helpsFrom_0 := by decide +kernel
theorem dX1_helpsFrom_0 : decode cX1_helpsFrom 0 = .ok (.aload_n 0, 1) := dk_42 (dk_at dksX1_helpsFrom_0 0 rfl rfl)
theorem dX1_helpsFrom_1 : decode cX1_helpsFrom 1 = .ok (.getfield 38, 3) := dk_180 0 38 (dk_at dksX1_helpsFrom_0 1 rfl rfl)
theorem dX1_helpsFrom_4 : decode cX1_helpsFrom 4 = .ok (.iconst 3, 1) := dk_6 (dk_at dksX1_helpsFrom_0 4 rfl rfl)
theorem dX1_helpsFrom_5 : decode cX1_helpsFrom 5 = .ok (.bipush 48, 2) := dk_16 48 (dk_at dksX1_helpsFrom_0 5 rfl rfl)
theorem dX1_helpsFrom_7 : decode cX1_helpsFrom 7 = .ok (.iload_n 1, 1) := dk_27 (dk_at dksX1_helpsFrom_0 7 rfl rfl)
theorem dX1_helpsFrom_8 : decode cX1_helpsFrom 8 = .ok (.invokestatic 201, 3) := dk_184 0 201 (dk_at dksX1_helpsFrom_0 8 rfl rfl)
theorem dX1_helpsFrom_11 : decode cX1_helpsFrom 11 = .ok (.imul, 1) := dk_104 (dk_at dksX1_helpsFrom_0 11 rfl rfl)
theorem dX1_helpsFrom_12 : decode cX1_helpsFrom 12 = .ok (.iload_n 2, 1) := dk_28 (dk_at dksX1_helpsFrom_0 12 rfl rfl)
theorem dX1_helpsFrom_13 : decode cX1_helpsFrom 13 = .ok (.iadd, 1) := dk_96 (dk_at dksX1_helpsFrom_0 13 rfl rfl)
theorem dX1_helpsFrom_14 : decode cX1_helpsFrom 14 = .ok (.iaload, 1) := dk_46 (dk_at dksX1_helpsFrom_0 14 rfl rfl)
theorem dX1_helpsFrom_15 : decode cX1_helpsFrom 15 = .ok (.ireturn, 1) := dk_172 (dk_at dksX1_helpsFrom_0 15 rfl rfl)
abbrev cX1_stays : ByteArray := prog_1_method_31_code
def yX1_stays : MethodName := ⟨RX1, "stays", "(II)Z"⟩
def dkwX1_stays_1 : List UInt8 := [167, 0, 4, 3, 172]
abbrev dktX1_stays_1 : List UInt8 := dkwX1_stays_1 ++ []
def dkwX1_stays_0 : List UInt8 := [27, 16, 48, 162, 0, 18, 42, 27, 28, 182, 0, 218, 42, 27, 28, 182, 0, 215, 160, 0, 7, 4]
abbrev dktX1_stays_0 : List UInt8 := dkwX1_stays_0 ++ dktX1_stays_1
theorem dksX1_stays_0 : cX1_stays.data.toList.drop 0 = dktX1_stays_0 := by decide +kernel
theorem dksX1_stays_1 : cX1_stays.data.toList.drop 22 = dktX1_stays_1 := dk_seg dksX1_stays_0 22 rfl rfl
theorem dX1_stays_0 : decode cX1_stays 0 = .ok (.iload_n 1, 1) := dk_27 (dk_at dksX1_stays_0 0 rfl rfl)
theorem dX1_stays_1 : decode cX1_stays 1 = .ok (.bipush 48, 2) := dk_16 48 (dk_at dksX1_stays_0 1 rfl rfl)
theorem dX1_stays_3 : decode cX1_stays 3 = .ok (.if_icmp .ge 18, 3) := dk_162 0 18 (dk_at dksX1_stays_0 3 rfl rfl)
theorem dX1_stays_6 : decode cX1_stays 6 = .ok (.aload_n 0, 1) := dk_42 (dk_at dksX1_stays_0 6 rfl rfl)
theorem dX1_stays_7 : decode cX1_stays 7 = .ok (.iload_n 1, 1) := dk_27 (dk_at dksX1_stays_0 7 rfl rfl)
theorem dX1_stays_8 : decode cX1_stays 8 = .ok (.iload_n 2, 1) := dk_28 (dk_at dksX1_stays_0 8 rfl rfl)
theorem dX1_stays_9 : decode cX1_stays 9 = .ok (.invokevirtual 218, 3) := dk_182 0 218 (dk_at dksX1_stays_0 9 rfl rfl)
theorem dX1_stays_12 : decode cX1_stays 12 = .ok (.aload_n 0, 1) := dk_42 (dk_at dksX1_stays_0 12 rfl rfl)
theorem dX1_stays_13 : decode cX1_stays 13 = .ok (.iload_n 1, 1) := dk_27 (dk_at dksX1_stays_0 13 rfl rfl)
theorem dX1_stays_14 : decode cX1_stays 14 = .ok (.iload_n 2, 1) := dk_28 (dk_at dksX1_stays_0 14 rfl rfl)
theorem dX1_stays_15 : decode cX1_stays 15 = .ok (.invokevirtual 215, 3) := dk_182 0 215 (dk_at dksX1_stays_0 15 rfl rfl)
theorem dX1_stays_18 : decode cX1_stays 18 = .ok (.if_icmp .ne 7, 3) := dk_160 0 7 (dk_at dksX1_stays_0 18 rfl rfl)
theorem dX1_stays_21 : decode cX1_stays 21 = .ok (.iconst 1, 1) := dk_4 (dk_at dksX1_stays_0 21 rfl rfl)
theorem dX1_stays_22 : decode cX1_stays 22 = .ok (.goto 4, 3) := dk_167 0 4 (dk_at dksX1_stays_1 0 rfl rfl)
theorem dX1_stays_25 : decode cX1_stays 25 = .ok (.iconst 0, 1) := dk_3 (dk_at dksX1_stays_1 3 rfl rfl)
theorem dX1_stays_26 : decode cX1_stays 26 = .ok (.ireturn, 1) := dk_172 (dk_at dksX1_stays_1 4 rfl rfl)
abbrev cX1_worst : ByteArray := prog_1_method_34_code
def yX1_worst : MethodName := ⟨RX1, "worst", "()I"⟩
def dkwX1_worst_4 : List UInt8 := [172]
abbrev dktX1_worst_4 : List UInt8 := dkwX1_worst_4 ++ []
def dkwX1_worst_3 : List UInt8 := [167, 255, 206, 21, 4, 28, 163, 0, 6, 167, 0, 8, 29, 60, 21, 4, 61, 132, 3, 1, 167, 255, 174, 27]
abbrev dktX1_worst_3 : List UInt8 := dkwX1_worst_3 ++ dktX1_worst_4
def dkwX1_worst_2 : List UInt8 := [29, 96, 46, 42, 180, 0, 28, 16, 48, 21, 5, 104, 29, 96, 46, 184, 0, 91, 96, 54, 4, 132, 5, 1]
abbrev dktX1_worst_2 : List UInt8 := dkwX1_worst_2 ++ dktX1_worst_3
def dkwX1_worst_1 : List UInt8 := [42, 180, 0, 16, 180, 0, 60, 162, 0, 44, 21, 4, 42, 180, 0, 16, 180, 0, 88, 16, 48, 21, 5, 104]
abbrev dktX1_worst_1 : List UInt8 := dkwX1_worst_1 ++ dktX1_worst_2
def dkwX1_worst_0 : List UInt8 := [42, 182, 0, 143, 2, 60, 3, 61, 3, 62, 29, 16, 48, 162, 0, 82, 3, 54, 4, 3, 54, 5, 21, 5]
abbrev dktX1_worst_0 : List UInt8 := dkwX1_worst_0 ++ dktX1_worst_1
theorem dksX1_worst_0 : cX1_worst.data.toList.drop 0 = dktX1_worst_0 := by decide +kernel
theorem dksX1_worst_1 : cX1_worst.data.toList.drop 24 = dktX1_worst_1 := dk_seg dksX1_worst_0 24 rfl rfl
theorem dksX1_worst_2 : cX1_worst.data.toList.drop 48 = dktX1_worst_2 := dk_seg dksX1_worst_1 24 rfl rfl
theorem dksX1_worst_3 : cX1_worst.data.toList.drop 72 = dktX1_worst_3 := dk_seg dksX1_worst_2 24 rfl rfl
theorem dksX1_worst_4 : cX1_worst.data.toList.drop 96 = dktX1_worst_4 := dk_seg dksX1_worst_3 24 rfl rfl
theorem dX1_worst_0 : decode cX1_worst 0 = .ok (.aload_n 0, 1) := dk_42 (dk_at dksX1_worst_0 0 rfl rfl)
theorem dX1_worst_1 : decode cX1_worst 1 = .ok (.invokevirtual 143, 3) := dk_182 0 143 (dk_at dksX1_worst_0 1 rfl rfl)
theorem dX1_worst_4 : decode cX1_worst 4 = .ok (.iconst (-1), 1) := dk_2 (dk_at dksX1_worst_0 4 rfl rfl)
theorem dX1_worst_5 : decode cX1_worst 5 = .ok (.istore_n 1, 1) := dk_60 (dk_at dksX1_worst_0 5 rfl rfl)
theorem dX1_worst_6 : decode cX1_worst 6 = .ok (.iconst 0, 1) := dk_3 (dk_at dksX1_worst_0 6 rfl rfl)
theorem dX1_worst_7 : decode cX1_worst 7 = .ok (.istore_n 2, 1) := dk_61 (dk_at dksX1_worst_0 7 rfl rfl)
theorem dX1_worst_8 : decode cX1_worst 8 = .ok (.iconst 0, 1) := dk_3 (dk_at dksX1_worst_0 8 rfl rfl)
theorem dX1_worst_9 : decode cX1_worst 9 = .ok (.istore_n 3, 1) := dk_62 (dk_at dksX1_worst_0 9 rfl rfl)
theorem dX1_worst_10 : decode cX1_worst 10 = .ok (.iload_n 3, 1) := dk_29 (dk_at dksX1_worst_0 10 rfl rfl)
theorem dX1_worst_11 : decode cX1_worst 11 = .ok (.bipush 48, 2) := dk_16 48 (dk_at dksX1_worst_0 11 rfl rfl)
theorem dX1_worst_13 : decode cX1_worst 13 = .ok (.if_icmp .ge 82, 3) := dk_162 0 82 (dk_at dksX1_worst_0 13 rfl rfl)
theorem dX1_worst_16 : decode cX1_worst 16 = .ok (.iconst 0, 1) := dk_3 (dk_at dksX1_worst_0 16 rfl rfl)
theorem dX1_worst_17 : decode cX1_worst 17 = .ok (.istore 4, 2) := dk_54 4 (dk_at dksX1_worst_0 17 rfl rfl)
theorem dX1_worst_19 : decode cX1_worst 19 = .ok (.iconst 0, 1) := dk_3 (dk_at dksX1_worst_0 19 rfl rfl)
theorem dX1_worst_20 : decode cX1_worst 20 = .ok (.istore 5, 2) := dk_54 5 (dk_at dksX1_worst_0 20 rfl rfl)
theorem dX1_worst_22 : decode cX1_worst 22 = .ok (.iload 5, 2) := dk_21 5 (dk_at dksX1_worst_0 22 rfl rfl)
theorem dX1_worst_24 : decode cX1_worst 24 = .ok (.aload_n 0, 1) := dk_42 (dk_at dksX1_worst_1 0 rfl rfl)
theorem dX1_worst_25 : decode cX1_worst 25 = .ok (.getfield 16, 3) := dk_180 0 16 (dk_at dksX1_worst_1 1 rfl rfl)
theorem dX1_worst_28 : decode cX1_worst 28 = .ok (.getfield 60, 3) := dk_180 0 60 (dk_at dksX1_worst_1 4 rfl rfl)
theorem dX1_worst_31 : decode cX1_worst 31 = .ok (.if_icmp .ge 44, 3) := dk_162 0 44 (dk_at dksX1_worst_1 7 rfl rfl)
theorem dX1_worst_34 : decode cX1_worst 34 = .ok (.iload 4, 2) := dk_21 4 (dk_at dksX1_worst_1 10 rfl rfl)
theorem dX1_worst_36 : decode cX1_worst 36 = .ok (.aload_n 0, 1) := dk_42 (dk_at dksX1_worst_1 12 rfl rfl)
theorem dX1_worst_37 : decode cX1_worst 37 = .ok (.getfield 16, 3) := dk_180 0 16 (dk_at dksX1_worst_1 13 rfl rfl)
theorem dX1_worst_40 : decode cX1_worst 40 = .ok (.getfield 88, 3) := dk_180 0 88 (dk_at dksX1_worst_1 16 rfl rfl)
theorem dX1_worst_43 : decode cX1_worst 43 = .ok (.bipush 48, 2) := dk_16 48 (dk_at dksX1_worst_1 19 rfl rfl)
theorem dX1_worst_45 : decode cX1_worst 45 = .ok (.iload 5, 2) := dk_21 5 (dk_at dksX1_worst_1 21 rfl rfl)
theorem dX1_worst_47 : decode cX1_worst 47 = .ok (.imul, 1) := dk_104 (dk_at dksX1_worst_1 23 rfl rfl)
theorem dX1_worst_48 : decode cX1_worst 48 = .ok (.iload_n 3, 1) := dk_29 (dk_at dksX1_worst_2 0 rfl rfl)
theorem dX1_worst_49 : decode cX1_worst 49 = .ok (.iadd, 1) := dk_96 (dk_at dksX1_worst_2 1 rfl rfl)
theorem dX1_worst_50 : decode cX1_worst 50 = .ok (.iaload, 1) := dk_46 (dk_at dksX1_worst_2 2 rfl rfl)
theorem dX1_worst_51 : decode cX1_worst 51 = .ok (.aload_n 0, 1) := dk_42 (dk_at dksX1_worst_2 3 rfl rfl)
theorem dX1_worst_52 : decode cX1_worst 52 = .ok (.getfield 28, 3) := dk_180 0 28 (dk_at dksX1_worst_2 4 rfl rfl)
theorem dX1_worst_55 : decode cX1_worst 55 = .ok (.bipush 48, 2) := dk_16 48 (dk_at dksX1_worst_2 7 rfl rfl)
theorem dX1_worst_57 : decode cX1_worst 57 = .ok (.iload 5, 2) := dk_21 5 (dk_at dksX1_worst_2 9 rfl rfl)
theorem dX1_worst_59 : decode cX1_worst 59 = .ok (.imul, 1) := dk_104 (dk_at dksX1_worst_2 11 rfl rfl)
theorem dX1_worst_60 : decode cX1_worst 60 = .ok (.iload_n 3, 1) := dk_29 (dk_at dksX1_worst_2 12 rfl rfl)
theorem dX1_worst_61 : decode cX1_worst 61 = .ok (.iadd, 1) := dk_96 (dk_at dksX1_worst_2 13 rfl rfl)
theorem dX1_worst_62 : decode cX1_worst 62 = .ok (.iaload, 1) := dk_46 (dk_at dksX1_worst_2 14 rfl rfl)
theorem dX1_worst_63 : decode cX1_worst 63 = .ok (.invokestatic 91, 3) := dk_184 0 91 (dk_at dksX1_worst_2 15 rfl rfl)
theorem dX1_worst_66 : decode cX1_worst 66 = .ok (.iadd, 1) := dk_96 (dk_at dksX1_worst_2 18 rfl rfl)
theorem dX1_worst_67 : decode cX1_worst 67 = .ok (.istore 4, 2) := dk_54 4 (dk_at dksX1_worst_2 19 rfl rfl)
theorem dX1_worst_69 : decode cX1_worst 69 = .ok (.iinc 5 1, 3) := dk_132 5 1 (dk_at dksX1_worst_2 21 rfl rfl)
theorem dX1_worst_72 : decode cX1_worst 72 = .ok (.goto (-50), 3) := dk_167 255 206 (dk_at dksX1_worst_3 0 rfl rfl)
theorem dX1_worst_75 : decode cX1_worst 75 = .ok (.iload 4, 2) := dk_21 4 (dk_at dksX1_worst_3 3 rfl rfl)
theorem dX1_worst_77 : decode cX1_worst 77 = .ok (.iload_n 2, 1) := dk_28 (dk_at dksX1_worst_3 5 rfl rfl)
theorem dX1_worst_78 : decode cX1_worst 78 = .ok (.if_icmp .gt 6, 3) := dk_163 0 6 (dk_at dksX1_worst_3 6 rfl rfl)
theorem dX1_worst_81 : decode cX1_worst 81 = .ok (.goto 8, 3) := dk_167 0 8 (dk_at dksX1_worst_3 9 rfl rfl)
theorem dX1_worst_84 : decode cX1_worst 84 = .ok (.iload_n 3, 1) := dk_29 (dk_at dksX1_worst_3 12 rfl rfl)
theorem dX1_worst_85 : decode cX1_worst 85 = .ok (.istore_n 1, 1) := dk_60 (dk_at dksX1_worst_3 13 rfl rfl)
theorem dX1_worst_86 : decode cX1_worst 86 = .ok (.iload 4, 2) := dk_21 4 (dk_at dksX1_worst_3 14 rfl rfl)
theorem dX1_worst_88 : decode cX1_worst 88 = .ok (.istore_n 2, 1) := dk_61 (dk_at dksX1_worst_3 16 rfl rfl)
theorem dX1_worst_89 : decode cX1_worst 89 = .ok (.iinc 3 1, 3) := dk_132 3 1 (dk_at dksX1_worst_3 17 rfl rfl)
theorem dX1_worst_92 : decode cX1_worst 92 = .ok (.goto (-82), 3) := dk_167 255 174 (dk_at dksX1_worst_3 20 rfl rfl)
theorem dX1_worst_95 : decode cX1_worst 95 = .ok (.iload_n 1, 1) := dk_27 (dk_at dksX1_worst_3 23 rfl rfl)
theorem dX1_worst_96 : decode cX1_worst 96 = .ok (.ireturn, 1) := dk_172 (dk_at dksX1_worst_4 0 rfl rfl)
abbrev cX1_undo : ByteArray := prog_1_method_36_code
def yX1_undo : MethodName := ⟨RX1, "undo", "()I"⟩
def dkwX1_undo_1 : List UInt8 := [42, 180, 0, 149, 50, 181, 0, 24, 42, 180, 0, 149, 172]
abbrev dktX1_undo_1 : List UInt8 := dkwX1_undo_1 ++ []
def dkwX1_undo_0 : List UInt8 := [42, 180, 0, 149, 154, 0, 5, 2, 172, 42, 89, 180, 0, 149, 4, 100, 181, 0, 149, 42, 42, 180, 0, 42]
abbrev dktX1_undo_0 : List UInt8 := dkwX1_undo_0 ++ dktX1_undo_1
theorem dksX1_undo_0 : cX1_undo.data.toList.drop 0 = dktX1_undo_0 := by decide +kernel
theorem dksX1_undo_1 : cX1_undo.data.toList.drop 24 = dktX1_undo_1 := dk_seg dksX1_undo_0 24 rfl rfl
theorem dX1_undo_0 : decode cX1_undo 0 = .ok (.aload_n 0, 1) := dk_42 (dk_at dksX1_undo_0 0 rfl rfl)
theorem dX1_undo_1 : decode cX1_undo 1 = .ok (.getfield 149, 3) := dk_180 0 149 (dk_at dksX1_undo_0 1 rfl rfl)
theorem dX1_undo_4 : decode cX1_undo 4 = .ok (.ifCond .ne 5, 3) := dk_154 0 5 (dk_at dksX1_undo_0 4 rfl rfl)
theorem dX1_undo_7 : decode cX1_undo 7 = .ok (.iconst (-1), 1) := dk_2 (dk_at dksX1_undo_0 7 rfl rfl)
theorem dX1_undo_8 : decode cX1_undo 8 = .ok (.ireturn, 1) := dk_172 (dk_at dksX1_undo_0 8 rfl rfl)
theorem dX1_undo_9 : decode cX1_undo 9 = .ok (.aload_n 0, 1) := dk_42 (dk_at dksX1_undo_0 9 rfl rfl)
theorem dX1_undo_10 : decode cX1_undo 10 = .ok (.dup, 1) := dk_89 (dk_at dksX1_undo_0 10 rfl rfl)
theorem dX1_undo_11 : decode cX1_undo 11 = .ok (.getfield 149, 3) := dk_180 0 149 (dk_at dksX1_undo_0 11 rfl rfl)
theorem dX1_undo_14 : decode cX1_undo 14 = .ok (.iconst 1, 1) := dk_4 (dk_at dksX1_undo_0 14 rfl rfl)
theorem dX1_undo_15 : decode cX1_undo 15 = .ok (.isub, 1) := dk_100 (dk_at dksX1_undo_0 15 rfl rfl)
theorem dX1_undo_16 : decode cX1_undo 16 = .ok (.putfield 149, 3) := dk_181 0 149 (dk_at dksX1_undo_0 16 rfl rfl)
theorem dX1_undo_19 : decode cX1_undo 19 = .ok (.aload_n 0, 1) := dk_42 (dk_at dksX1_undo_0 19 rfl rfl)
theorem dX1_undo_20 : decode cX1_undo 20 = .ok (.aload_n 0, 1) := dk_42 (dk_at dksX1_undo_0 20 rfl rfl)
theorem dX1_undo_21 : decode cX1_undo 21 = .ok (.getfield 42, 3) := dk_180 0 42 (dk_at dksX1_undo_0 21 rfl rfl)
theorem dX1_undo_24 : decode cX1_undo 24 = .ok (.aload_n 0, 1) := dk_42 (dk_at dksX1_undo_1 0 rfl rfl)
theorem dX1_undo_25 : decode cX1_undo 25 = .ok (.getfield 149, 3) := dk_180 0 149 (dk_at dksX1_undo_1 1 rfl rfl)
theorem dX1_undo_28 : decode cX1_undo 28 = .ok (.aaload, 1) := dk_50 (dk_at dksX1_undo_1 4 rfl rfl)
theorem dX1_undo_29 : decode cX1_undo 29 = .ok (.putfield 24, 3) := dk_181 0 24 (dk_at dksX1_undo_1 5 rfl rfl)
theorem dX1_undo_32 : decode cX1_undo 32 = .ok (.aload_n 0, 1) := dk_42 (dk_at dksX1_undo_1 8 rfl rfl)
theorem dX1_undo_33 : decode cX1_undo 33 = .ok (.getfield 149, 3) := dk_180 0 149 (dk_at dksX1_undo_1 9 rfl rfl)
theorem dX1_undo_36 : decode cX1_undo 36 = .ok (.ireturn, 1) := dk_172 (dk_at dksX1_undo_1 12 rfl rfl)
abbrev cX1_place : ByteArray := prog_1_method_37_code
def yX1_place : MethodName := ⟨RX1, "place", "(II)I"⟩
def dkwX1_place_1 : List UInt8 := [154, 0, 7, 2, 167, 0, 4, 29, 172, 42, 182, 0, 231, 42, 180, 0, 24, 27, 28, 79, 3, 172]
abbrev dktX1_place_1 : List UInt8 := dkwX1_place_1 ++ []
def dkwX1_place_0 : List UInt8 := [42, 27, 28, 182, 0, 175, 62, 29, 154, 0, 13, 42, 180, 0, 24, 27, 46, 28, 160, 0, 13, 29]
abbrev dktX1_place_0 : List UInt8 := dkwX1_place_0 ++ dktX1_place_1
theorem dksX1_place_0 : cX1_place.data.toList.drop 0 = dktX1_place_0 := by decide +kernel
theorem dksX1_place_1 : cX1_place.data.toList.drop 22 = dktX1_place_1 := dk_seg dksX1_place_0 22 rfl rfl
theorem dX1_place_0 : decode cX1_place 0 = .ok (.aload_n 0, 1) := dk_42 (dk_at dksX1_place_0 0 rfl rfl)
theorem dX1_place_1 : decode cX1_place 1 = .ok (.iload_n 1, 1) := dk_27 (dk_at dksX1_place_0 1 rfl rfl)
theorem dX1_place_2 : decode cX1_place 2 = .ok (.iload_n 2, 1) := dk_28 (dk_at dksX1_place_0 2 rfl rfl)
theorem dX1_place_3 : decode cX1_place 3 = .ok (.invokevirtual 175, 3) := dk_182 0 175 (dk_at dksX1_place_0 3 rfl rfl)
theorem dX1_place_6 : decode cX1_place 6 = .ok (.istore_n 3, 1) := dk_62 (dk_at dksX1_place_0 6 rfl rfl)
theorem dX1_place_7 : decode cX1_place 7 = .ok (.iload_n 3, 1) := dk_29 (dk_at dksX1_place_0 7 rfl rfl)
theorem dX1_place_8 : decode cX1_place 8 = .ok (.ifCond .ne 13, 3) := dk_154 0 13 (dk_at dksX1_place_0 8 rfl rfl)
theorem dX1_place_11 : decode cX1_place 11 = .ok (.aload_n 0, 1) := dk_42 (dk_at dksX1_place_0 11 rfl rfl)
theorem dX1_place_12 : decode cX1_place 12 = .ok (.getfield 24, 3) := dk_180 0 24 (dk_at dksX1_place_0 12 rfl rfl)
theorem dX1_place_15 : decode cX1_place 15 = .ok (.iload_n 1, 1) := dk_27 (dk_at dksX1_place_0 15 rfl rfl)
theorem dX1_place_16 : decode cX1_place 16 = .ok (.iaload, 1) := dk_46 (dk_at dksX1_place_0 16 rfl rfl)
theorem dX1_place_17 : decode cX1_place 17 = .ok (.iload_n 2, 1) := dk_28 (dk_at dksX1_place_0 17 rfl rfl)
theorem dX1_place_18 : decode cX1_place 18 = .ok (.if_icmp .ne 13, 3) := dk_160 0 13 (dk_at dksX1_place_0 18 rfl rfl)
theorem dX1_place_21 : decode cX1_place 21 = .ok (.iload_n 3, 1) := dk_29 (dk_at dksX1_place_0 21 rfl rfl)
theorem dX1_place_22 : decode cX1_place 22 = .ok (.ifCond .ne 7, 3) := dk_154 0 7 (dk_at dksX1_place_1 0 rfl rfl)
theorem dX1_place_25 : decode cX1_place 25 = .ok (.iconst (-1), 1) := dk_2 (dk_at dksX1_place_1 3 rfl rfl)
theorem dX1_place_26 : decode cX1_place 26 = .ok (.goto 4, 3) := dk_167 0 4 (dk_at dksX1_place_1 4 rfl rfl)
theorem dX1_place_29 : decode cX1_place 29 = .ok (.iload_n 3, 1) := dk_29 (dk_at dksX1_place_1 7 rfl rfl)
theorem dX1_place_30 : decode cX1_place 30 = .ok (.ireturn, 1) := dk_172 (dk_at dksX1_place_1 8 rfl rfl)
theorem dX1_place_31 : decode cX1_place 31 = .ok (.aload_n 0, 1) := dk_42 (dk_at dksX1_place_1 9 rfl rfl)
theorem dX1_place_32 : decode cX1_place 32 = .ok (.invokevirtual 231, 3) := dk_182 0 231 (dk_at dksX1_place_1 10 rfl rfl)
theorem dX1_place_35 : decode cX1_place 35 = .ok (.aload_n 0, 1) := dk_42 (dk_at dksX1_place_1 13 rfl rfl)
theorem dX1_place_36 : decode cX1_place 36 = .ok (.getfield 24, 3) := dk_180 0 24 (dk_at dksX1_place_1 14 rfl rfl)
theorem dX1_place_39 : decode cX1_place 39 = .ok (.iload_n 1, 1) := dk_27 (dk_at dksX1_place_1 17 rfl rfl)
theorem dX1_place_40 : decode cX1_place 40 = .ok (.iload_n 2, 1) := dk_28 (dk_at dksX1_place_1 18 rfl rfl)
theorem dX1_place_41 : decode cX1_place 41 = .ok (.iastore, 1) := dk_79 (dk_at dksX1_place_1 19 rfl rfl)
theorem dX1_place_42 : decode cX1_place 42 = .ok (.iconst 0, 1) := dk_3 (dk_at dksX1_place_1 20 rfl rfl)
theorem dX1_place_43 : decode cX1_place 43 = .ok (.ireturn, 1) := dk_172 (dk_at dksX1_place_1 21 rfl rfl)
abbrev cX1_remembers : ByteArray := prog_1_method_35_code
def yX1_remembers : MethodName := ⟨RX1, "remembers", "()V"⟩
def dkwX1_remembers_2 : List UInt8 := [182, 0, 227, 192, 0, 41, 83, 42, 89, 180, 0, 149, 4, 96, 181, 0, 149, 177]
abbrev dktX1_remembers_2 : List UInt8 := dkwX1_remembers_2 ++ []
def dkwX1_remembers_1 : List UInt8 := [42, 89, 180, 0, 149, 4, 100, 181, 0, 149, 42, 180, 0, 42, 42, 180, 0, 149, 42, 180, 0, 24]
abbrev dktX1_remembers_1 : List UInt8 := dkwX1_remembers_1 ++ dktX1_remembers_2
def dkwX1_remembers_0 : List UInt8 := [42, 180, 0, 149, 16, 10, 160, 0, 28, 42, 180, 0, 42, 4, 42, 180, 0, 42, 3, 16, 9, 184, 0, 79]
abbrev dktX1_remembers_0 : List UInt8 := dkwX1_remembers_0 ++ dktX1_remembers_1
theorem dksX1_remembers_0 : cX1_remembers.data.toList.drop 0 = dktX1_remembers_0 := by decide +kernel
theorem dksX1_remembers_1 : cX1_remembers.data.toList.drop 24 = dktX1_remembers_1 := dk_seg dksX1_remembers_0 24 rfl rfl
theorem dksX1_remembers_2 : cX1_remembers.data.toList.drop 46 = dktX1_remembers_2 := dk_seg dksX1_remembers_1 22 rfl rfl
theorem dX1_remembers_0 : decode cX1_remembers 0 = .ok (.aload_n 0, 1) := dk_42 (dk_at dksX1_remembers_0 0 rfl rfl)
theorem dX1_remembers_1 : decode cX1_remembers 1 = .ok (.getfield 149, 3) := dk_180 0 149 (dk_at dksX1_remembers_0 1 rfl rfl)
theorem dX1_remembers_4 : decode cX1_remembers 4 = .ok (.bipush 10, 2) := dk_16 10 (dk_at dksX1_remembers_0 4 rfl rfl)
theorem dX1_remembers_6 : decode cX1_remembers 6 = .ok (.if_icmp .ne 28, 3) := dk_160 0 28 (dk_at dksX1_remembers_0 6 rfl rfl)
theorem dX1_remembers_9 : decode cX1_remembers 9 = .ok (.aload_n 0, 1) := dk_42 (dk_at dksX1_remembers_0 9 rfl rfl)
theorem dX1_remembers_10 : decode cX1_remembers 10 = .ok (.getfield 42, 3) := dk_180 0 42 (dk_at dksX1_remembers_0 10 rfl rfl)
theorem dX1_remembers_13 : decode cX1_remembers 13 = .ok (.iconst 1, 1) := dk_4 (dk_at dksX1_remembers_0 13 rfl rfl)
theorem dX1_remembers_14 : decode cX1_remembers 14 = .ok (.aload_n 0, 1) := dk_42 (dk_at dksX1_remembers_0 14 rfl rfl)
theorem dX1_remembers_15 : decode cX1_remembers 15 = .ok (.getfield 42, 3) := dk_180 0 42 (dk_at dksX1_remembers_0 15 rfl rfl)
theorem dX1_remembers_18 : decode cX1_remembers 18 = .ok (.iconst 0, 1) := dk_3 (dk_at dksX1_remembers_0 18 rfl rfl)
theorem dX1_remembers_19 : decode cX1_remembers 19 = .ok (.bipush 9, 2) := dk_16 9 (dk_at dksX1_remembers_0 19 rfl rfl)
theorem dX1_remembers_21 : decode cX1_remembers 21 = .ok (.invokestatic 79, 3) := dk_184 0 79 (dk_at dksX1_remembers_0 21 rfl rfl)
theorem dX1_remembers_24 : decode cX1_remembers 24 = .ok (.aload_n 0, 1) := dk_42 (dk_at dksX1_remembers_1 0 rfl rfl)
theorem dX1_remembers_25 : decode cX1_remembers 25 = .ok (.dup, 1) := dk_89 (dk_at dksX1_remembers_1 1 rfl rfl)
theorem dX1_remembers_26 : decode cX1_remembers 26 = .ok (.getfield 149, 3) := dk_180 0 149 (dk_at dksX1_remembers_1 2 rfl rfl)
theorem dX1_remembers_29 : decode cX1_remembers 29 = .ok (.iconst 1, 1) := dk_4 (dk_at dksX1_remembers_1 5 rfl rfl)
theorem dX1_remembers_30 : decode cX1_remembers 30 = .ok (.isub, 1) := dk_100 (dk_at dksX1_remembers_1 6 rfl rfl)
theorem dX1_remembers_31 : decode cX1_remembers 31 = .ok (.putfield 149, 3) := dk_181 0 149 (dk_at dksX1_remembers_1 7 rfl rfl)
theorem dX1_remembers_34 : decode cX1_remembers 34 = .ok (.aload_n 0, 1) := dk_42 (dk_at dksX1_remembers_1 10 rfl rfl)
theorem dX1_remembers_35 : decode cX1_remembers 35 = .ok (.getfield 42, 3) := dk_180 0 42 (dk_at dksX1_remembers_1 11 rfl rfl)
theorem dX1_remembers_38 : decode cX1_remembers 38 = .ok (.aload_n 0, 1) := dk_42 (dk_at dksX1_remembers_1 14 rfl rfl)
theorem dX1_remembers_39 : decode cX1_remembers 39 = .ok (.getfield 149, 3) := dk_180 0 149 (dk_at dksX1_remembers_1 15 rfl rfl)
theorem dX1_remembers_42 : decode cX1_remembers 42 = .ok (.aload_n 0, 1) := dk_42 (dk_at dksX1_remembers_1 18 rfl rfl)
theorem dX1_remembers_43 : decode cX1_remembers 43 = .ok (.getfield 24, 3) := dk_180 0 24 (dk_at dksX1_remembers_1 19 rfl rfl)
theorem dX1_remembers_46 : decode cX1_remembers 46 = .ok (.invokevirtual 227, 3) := dk_182 0 227 (dk_at dksX1_remembers_2 0 rfl rfl)
theorem dX1_remembers_49 : decode cX1_remembers 49 = .ok (.checkcast 41, 3) := dk_192 0 41 (dk_at dksX1_remembers_2 3 rfl rfl)
theorem dX1_remembers_52 : decode cX1_remembers 52 = .ok (.aastore, 1) := dk_83 (dk_at dksX1_remembers_2 6 rfl rfl)
theorem dX1_remembers_53 : decode cX1_remembers 53 = .ok (.aload_n 0, 1) := dk_42 (dk_at dksX1_remembers_2 7 rfl rfl)
theorem dX1_remembers_54 : decode cX1_remembers 54 = .ok (.dup, 1) := dk_89 (dk_at dksX1_remembers_2 8 rfl rfl)
theorem dX1_remembers_55 : decode cX1_remembers 55 = .ok (.getfield 149, 3) := dk_180 0 149 (dk_at dksX1_remembers_2 9 rfl rfl)
theorem dX1_remembers_58 : decode cX1_remembers 58 = .ok (.iconst 1, 1) := dk_4 (dk_at dksX1_remembers_2 12 rfl rfl)
theorem dX1_remembers_59 : decode cX1_remembers 59 = .ok (.iadd, 1) := dk_96 (dk_at dksX1_remembers_2 13 rfl rfl)
theorem dX1_remembers_60 : decode cX1_remembers 60 = .ok (.putfield 149, 3) := dk_181 0 149 (dk_at dksX1_remembers_2 14 rfl rfl)
theorem dX1_remembers_63 : decode cX1_remembers 63 = .ok (.return_, 1) := dk_177 (dk_at dksX1_remembers_2 17 rfl rfl)
abbrev cX1_take : ByteArray := prog_1_method_38_code
def yX1_take : MethodName := ⟨RX1, "take", "(I)I"⟩
def dkwX1_take_1 : List UInt8 := [42, 180, 0, 24, 27, 46, 61, 42, 180, 0, 24, 27, 2, 79, 28, 172]
abbrev dktX1_take_1 : List UInt8 := dkwX1_take_1 ++ []
def dkwX1_take_0 : List UInt8 := [42, 27, 182, 0, 165, 153, 0, 13, 42, 180, 0, 24, 27, 46, 2, 160, 0, 5, 2, 172, 42, 182, 0, 231]
abbrev dktX1_take_0 : List UInt8 := dkwX1_take_0 ++ dktX1_take_1
theorem dksX1_take_0 : cX1_take.data.toList.drop 0 = dktX1_take_0 := by decide +kernel
theorem dksX1_take_1 : cX1_take.data.toList.drop 24 = dktX1_take_1 := dk_seg dksX1_take_0 24 rfl rfl
theorem dX1_take_0 : decode cX1_take 0 = .ok (.aload_n 0, 1) := dk_42 (dk_at dksX1_take_0 0 rfl rfl)
theorem dX1_take_1 : decode cX1_take 1 = .ok (.iload_n 1, 1) := dk_27 (dk_at dksX1_take_0 1 rfl rfl)
theorem dX1_take_2 : decode cX1_take 2 = .ok (.invokevirtual 165, 3) := dk_182 0 165 (dk_at dksX1_take_0 2 rfl rfl)
theorem dX1_take_5 : decode cX1_take 5 = .ok (.ifCond .eq 13, 3) := dk_153 0 13 (dk_at dksX1_take_0 5 rfl rfl)
theorem dX1_take_8 : decode cX1_take 8 = .ok (.aload_n 0, 1) := dk_42 (dk_at dksX1_take_0 8 rfl rfl)
theorem dX1_take_9 : decode cX1_take 9 = .ok (.getfield 24, 3) := dk_180 0 24 (dk_at dksX1_take_0 9 rfl rfl)
theorem dX1_take_12 : decode cX1_take 12 = .ok (.iload_n 1, 1) := dk_27 (dk_at dksX1_take_0 12 rfl rfl)
theorem dX1_take_13 : decode cX1_take 13 = .ok (.iaload, 1) := dk_46 (dk_at dksX1_take_0 13 rfl rfl)
theorem dX1_take_14 : decode cX1_take 14 = .ok (.iconst (-1), 1) := dk_2 (dk_at dksX1_take_0 14 rfl rfl)
theorem dX1_take_15 : decode cX1_take 15 = .ok (.if_icmp .ne 5, 3) := dk_160 0 5 (dk_at dksX1_take_0 15 rfl rfl)
theorem dX1_take_18 : decode cX1_take 18 = .ok (.iconst (-1), 1) := dk_2 (dk_at dksX1_take_0 18 rfl rfl)
theorem dX1_take_19 : decode cX1_take 19 = .ok (.ireturn, 1) := dk_172 (dk_at dksX1_take_0 19 rfl rfl)
theorem dX1_take_20 : decode cX1_take 20 = .ok (.aload_n 0, 1) := dk_42 (dk_at dksX1_take_0 20 rfl rfl)
theorem dX1_take_21 : decode cX1_take 21 = .ok (.invokevirtual 231, 3) := dk_182 0 231 (dk_at dksX1_take_0 21 rfl rfl)
theorem dX1_take_24 : decode cX1_take 24 = .ok (.aload_n 0, 1) := dk_42 (dk_at dksX1_take_1 0 rfl rfl)
theorem dX1_take_25 : decode cX1_take 25 = .ok (.getfield 24, 3) := dk_180 0 24 (dk_at dksX1_take_1 1 rfl rfl)
theorem dX1_take_28 : decode cX1_take 28 = .ok (.iload_n 1, 1) := dk_27 (dk_at dksX1_take_1 4 rfl rfl)
theorem dX1_take_29 : decode cX1_take 29 = .ok (.iaload, 1) := dk_46 (dk_at dksX1_take_1 5 rfl rfl)
theorem dX1_take_30 : decode cX1_take 30 = .ok (.istore_n 2, 1) := dk_61 (dk_at dksX1_take_1 6 rfl rfl)
theorem dX1_take_31 : decode cX1_take 31 = .ok (.aload_n 0, 1) := dk_42 (dk_at dksX1_take_1 7 rfl rfl)
theorem dX1_take_32 : decode cX1_take 32 = .ok (.getfield 24, 3) := dk_180 0 24 (dk_at dksX1_take_1 8 rfl rfl)
theorem dX1_take_35 : decode cX1_take 35 = .ok (.iload_n 1, 1) := dk_27 (dk_at dksX1_take_1 11 rfl rfl)
theorem dX1_take_36 : decode cX1_take 36 = .ok (.iconst (-1), 1) := dk_2 (dk_at dksX1_take_1 12 rfl rfl)
theorem dX1_take_37 : decode cX1_take 37 = .ok (.iastore, 1) := dk_79 (dk_at dksX1_take_1 13 rfl rfl)
theorem dX1_take_38 : decode cX1_take 38 = .ok (.iload_n 2, 1) := dk_28 (dk_at dksX1_take_1 14 rfl rfl)
theorem dX1_take_39 : decode cX1_take 39 = .ok (.ireturn, 1) := dk_172 (dk_at dksX1_take_1 15 rfl rfl)
abbrev cX1_fill : ByteArray := prog_1_method_39_code
def yX1_fill : MethodName := ⟨RX1, "fill", "()I"⟩
def dkwX1_fill_2 : List UInt8 := [180, 0, 24, 28, 46, 2, 159, 0, 6, 132, 1, 1, 132, 2, 1, 167, 255, 201, 27, 172]
abbrev dktX1_fill_2 : List UInt8 := dkwX1_fill_2 ++ []
def dkwX1_fill_1 : List UInt8 := [46, 2, 159, 0, 6, 167, 0, 31, 42, 182, 0, 143, 42, 180, 0, 24, 28, 42, 28, 182, 0, 194, 79, 42]
abbrev dktX1_fill_1 : List UInt8 := dkwX1_fill_1 ++ dktX1_fill_2
def dkwX1_fill_0 : List UInt8 := [42, 182, 0, 231, 3, 60, 3, 61, 28, 42, 180, 0, 16, 180, 0, 67, 162, 0, 50, 42, 180, 0, 24, 28]
abbrev dktX1_fill_0 : List UInt8 := dkwX1_fill_0 ++ dktX1_fill_1
theorem dksX1_fill_0 : cX1_fill.data.toList.drop 0 = dktX1_fill_0 := by decide +kernel
theorem dksX1_fill_1 : cX1_fill.data.toList.drop 24 = dktX1_fill_1 := dk_seg dksX1_fill_0 24 rfl rfl
theorem dksX1_fill_2 : cX1_fill.data.toList.drop 48 = dktX1_fill_2 := dk_seg dksX1_fill_1 24 rfl rfl
theorem dX1_fill_0 : decode cX1_fill 0 = .ok (.aload_n 0, 1) := dk_42 (dk_at dksX1_fill_0 0 rfl rfl)
theorem dX1_fill_1 : decode cX1_fill 1 = .ok (.invokevirtual 231, 3) := dk_182 0 231 (dk_at dksX1_fill_0 1 rfl rfl)
theorem dX1_fill_4 : decode cX1_fill 4 = .ok (.iconst 0, 1) := dk_3 (dk_at dksX1_fill_0 4 rfl rfl)
theorem dX1_fill_5 : decode cX1_fill 5 = .ok (.istore_n 1, 1) := dk_60 (dk_at dksX1_fill_0 5 rfl rfl)
theorem dX1_fill_6 : decode cX1_fill 6 = .ok (.iconst 0, 1) := dk_3 (dk_at dksX1_fill_0 6 rfl rfl)
theorem dX1_fill_7 : decode cX1_fill 7 = .ok (.istore_n 2, 1) := dk_61 (dk_at dksX1_fill_0 7 rfl rfl)
theorem dX1_fill_8 : decode cX1_fill 8 = .ok (.iload_n 2, 1) := dk_28 (dk_at dksX1_fill_0 8 rfl rfl)
theorem dX1_fill_9 : decode cX1_fill 9 = .ok (.aload_n 0, 1) := dk_42 (dk_at dksX1_fill_0 9 rfl rfl)
theorem dX1_fill_10 : decode cX1_fill 10 = .ok (.getfield 16, 3) := dk_180 0 16 (dk_at dksX1_fill_0 10 rfl rfl)
theorem dX1_fill_13 : decode cX1_fill 13 = .ok (.getfield 67, 3) := dk_180 0 67 (dk_at dksX1_fill_0 13 rfl rfl)
theorem dX1_fill_16 : decode cX1_fill 16 = .ok (.if_icmp .ge 50, 3) := dk_162 0 50 (dk_at dksX1_fill_0 16 rfl rfl)
theorem dX1_fill_19 : decode cX1_fill 19 = .ok (.aload_n 0, 1) := dk_42 (dk_at dksX1_fill_0 19 rfl rfl)
theorem dX1_fill_20 : decode cX1_fill 20 = .ok (.getfield 24, 3) := dk_180 0 24 (dk_at dksX1_fill_0 20 rfl rfl)
theorem dX1_fill_23 : decode cX1_fill 23 = .ok (.iload_n 2, 1) := dk_28 (dk_at dksX1_fill_0 23 rfl rfl)
theorem dX1_fill_24 : decode cX1_fill 24 = .ok (.iaload, 1) := dk_46 (dk_at dksX1_fill_1 0 rfl rfl)
theorem dX1_fill_25 : decode cX1_fill 25 = .ok (.iconst (-1), 1) := dk_2 (dk_at dksX1_fill_1 1 rfl rfl)
theorem dX1_fill_26 : decode cX1_fill 26 = .ok (.if_icmp .eq 6, 3) := dk_159 0 6 (dk_at dksX1_fill_1 2 rfl rfl)
theorem dX1_fill_29 : decode cX1_fill 29 = .ok (.goto 31, 3) := dk_167 0 31 (dk_at dksX1_fill_1 5 rfl rfl)
theorem dX1_fill_32 : decode cX1_fill 32 = .ok (.aload_n 0, 1) := dk_42 (dk_at dksX1_fill_1 8 rfl rfl)
theorem dX1_fill_33 : decode cX1_fill 33 = .ok (.invokevirtual 143, 3) := dk_182 0 143 (dk_at dksX1_fill_1 9 rfl rfl)
theorem dX1_fill_36 : decode cX1_fill 36 = .ok (.aload_n 0, 1) := dk_42 (dk_at dksX1_fill_1 12 rfl rfl)
theorem dX1_fill_37 : decode cX1_fill 37 = .ok (.getfield 24, 3) := dk_180 0 24 (dk_at dksX1_fill_1 13 rfl rfl)
theorem dX1_fill_40 : decode cX1_fill 40 = .ok (.iload_n 2, 1) := dk_28 (dk_at dksX1_fill_1 16 rfl rfl)
theorem dX1_fill_41 : decode cX1_fill 41 = .ok (.aload_n 0, 1) := dk_42 (dk_at dksX1_fill_1 17 rfl rfl)
theorem dX1_fill_42 : decode cX1_fill 42 = .ok (.iload_n 2, 1) := dk_28 (dk_at dksX1_fill_1 18 rfl rfl)
theorem dX1_fill_43 : decode cX1_fill 43 = .ok (.invokevirtual 194, 3) := dk_182 0 194 (dk_at dksX1_fill_1 19 rfl rfl)
theorem dX1_fill_46 : decode cX1_fill 46 = .ok (.iastore, 1) := dk_79 (dk_at dksX1_fill_1 22 rfl rfl)
theorem dX1_fill_47 : decode cX1_fill 47 = .ok (.aload_n 0, 1) := dk_42 (dk_at dksX1_fill_1 23 rfl rfl)
theorem dX1_fill_48 : decode cX1_fill 48 = .ok (.getfield 24, 3) := dk_180 0 24 (dk_at dksX1_fill_2 0 rfl rfl)
theorem dX1_fill_51 : decode cX1_fill 51 = .ok (.iload_n 2, 1) := dk_28 (dk_at dksX1_fill_2 3 rfl rfl)
theorem dX1_fill_52 : decode cX1_fill 52 = .ok (.iaload, 1) := dk_46 (dk_at dksX1_fill_2 4 rfl rfl)
theorem dX1_fill_53 : decode cX1_fill 53 = .ok (.iconst (-1), 1) := dk_2 (dk_at dksX1_fill_2 5 rfl rfl)
theorem dX1_fill_54 : decode cX1_fill 54 = .ok (.if_icmp .eq 6, 3) := dk_159 0 6 (dk_at dksX1_fill_2 6 rfl rfl)
theorem dX1_fill_57 : decode cX1_fill 57 = .ok (.iinc 1 1, 3) := dk_132 1 1 (dk_at dksX1_fill_2 9 rfl rfl)
theorem dX1_fill_60 : decode cX1_fill 60 = .ok (.iinc 2 1, 3) := dk_132 2 1 (dk_at dksX1_fill_2 12 rfl rfl)
theorem dX1_fill_63 : decode cX1_fill 63 = .ok (.goto (-55), 3) := dk_167 255 201 (dk_at dksX1_fill_2 15 rfl rfl)
theorem dX1_fill_66 : decode cX1_fill 66 = .ok (.iload_n 1, 1) := dk_27 (dk_at dksX1_fill_2 18 rfl rfl)
theorem dX1_fill_67 : decode cX1_fill 67 = .ok (.ireturn, 1) := dk_172 (dk_at dksX1_fill_2 19 rfl rfl)
abbrev cX1_settle : ByteArray := prog_1_method_40_code
def yX1_settle : MethodName := ⟨RX1, "settle", "()I"⟩
def dkwX1_settle_2 : List UInt8 := [132, 2, 1, 42, 182, 0, 198, 60, 167, 255, 223, 28, 172]
abbrev dktX1_settle_2 : List UInt8 := dkwX1_settle_2 ++ []
def dkwX1_settle_1 : List UInt8 := [159, 0, 33, 28, 16, 40, 162, 0, 27, 42, 180, 0, 24, 27, 16, 100, 108, 27, 16, 100, 112, 79]
abbrev dktX1_settle_1 : List UInt8 := dkwX1_settle_1 ++ dktX1_settle_2
def dkwX1_settle_0 : List UInt8 := [42, 182, 0, 198, 60, 27, 16, 254, 160, 0, 5, 2, 172, 42, 182, 0, 231, 3, 61, 27, 16, 254]
abbrev dktX1_settle_0 : List UInt8 := dkwX1_settle_0 ++ dktX1_settle_1
theorem dksX1_settle_0 : cX1_settle.data.toList.drop 0 = dktX1_settle_0 := by decide +kernel
theorem dksX1_settle_1 : cX1_settle.data.toList.drop 22 = dktX1_settle_1 := dk_seg dksX1_settle_0 22 rfl rfl
theorem dksX1_settle_2 : cX1_settle.data.toList.drop 44 = dktX1_settle_2 := dk_seg dksX1_settle_1 22 rfl rfl
theorem dX1_settle_0 : decode cX1_settle 0 = .ok (.aload_n 0, 1) := dk_42 (dk_at dksX1_settle_0 0 rfl rfl)
theorem dX1_settle_1 : decode cX1_settle 1 = .ok (.invokevirtual 198, 3) := dk_182 0 198 (dk_at dksX1_settle_0 1 rfl rfl)
theorem dX1_settle_4 : decode cX1_settle 4 = .ok (.istore_n 1, 1) := dk_60 (dk_at dksX1_settle_0 4 rfl rfl)
theorem dX1_settle_5 : decode cX1_settle 5 = .ok (.iload_n 1, 1) := dk_27 (dk_at dksX1_settle_0 5 rfl rfl)
theorem dX1_settle_6 : decode cX1_settle 6 = .ok (.bipush (-2), 2) := dk_16 254 (dk_at dksX1_settle_0 6 rfl rfl)
theorem dX1_settle_8 : decode cX1_settle 8 = .ok (.if_icmp .ne 5, 3) := dk_160 0 5 (dk_at dksX1_settle_0 8 rfl rfl)
theorem dX1_settle_11 : decode cX1_settle 11 = .ok (.iconst (-1), 1) := dk_2 (dk_at dksX1_settle_0 11 rfl rfl)
theorem dX1_settle_12 : decode cX1_settle 12 = .ok (.ireturn, 1) := dk_172 (dk_at dksX1_settle_0 12 rfl rfl)
theorem dX1_settle_13 : decode cX1_settle 13 = .ok (.aload_n 0, 1) := dk_42 (dk_at dksX1_settle_0 13 rfl rfl)
theorem dX1_settle_14 : decode cX1_settle 14 = .ok (.invokevirtual 231, 3) := dk_182 0 231 (dk_at dksX1_settle_0 14 rfl rfl)
theorem dX1_settle_17 : decode cX1_settle 17 = .ok (.iconst 0, 1) := dk_3 (dk_at dksX1_settle_0 17 rfl rfl)
theorem dX1_settle_18 : decode cX1_settle 18 = .ok (.istore_n 2, 1) := dk_61 (dk_at dksX1_settle_0 18 rfl rfl)
theorem dX1_settle_19 : decode cX1_settle 19 = .ok (.iload_n 1, 1) := dk_27 (dk_at dksX1_settle_0 19 rfl rfl)
theorem dX1_settle_20 : decode cX1_settle 20 = .ok (.bipush (-2), 2) := dk_16 254 (dk_at dksX1_settle_0 20 rfl rfl)
theorem dX1_settle_22 : decode cX1_settle 22 = .ok (.if_icmp .eq 33, 3) := dk_159 0 33 (dk_at dksX1_settle_1 0 rfl rfl)
theorem dX1_settle_25 : decode cX1_settle 25 = .ok (.iload_n 2, 1) := dk_28 (dk_at dksX1_settle_1 3 rfl rfl)
theorem dX1_settle_26 : decode cX1_settle 26 = .ok (.bipush 40, 2) := dk_16 40 (dk_at dksX1_settle_1 4 rfl rfl)
theorem dX1_settle_28 : decode cX1_settle 28 = .ok (.if_icmp .ge 27, 3) := dk_162 0 27 (dk_at dksX1_settle_1 6 rfl rfl)
theorem dX1_settle_31 : decode cX1_settle 31 = .ok (.aload_n 0, 1) := dk_42 (dk_at dksX1_settle_1 9 rfl rfl)
theorem dX1_settle_32 : decode cX1_settle 32 = .ok (.getfield 24, 3) := dk_180 0 24 (dk_at dksX1_settle_1 10 rfl rfl)
theorem dX1_settle_35 : decode cX1_settle 35 = .ok (.iload_n 1, 1) := dk_27 (dk_at dksX1_settle_1 13 rfl rfl)
theorem dX1_settle_36 : decode cX1_settle 36 = .ok (.bipush 100, 2) := dk_16 100 (dk_at dksX1_settle_1 14 rfl rfl)
theorem dX1_settle_38 : decode cX1_settle 38 = .ok (.idiv, 1) := dk_108 (dk_at dksX1_settle_1 16 rfl rfl)
theorem dX1_settle_39 : decode cX1_settle 39 = .ok (.iload_n 1, 1) := dk_27 (dk_at dksX1_settle_1 17 rfl rfl)
theorem dX1_settle_40 : decode cX1_settle 40 = .ok (.bipush 100, 2) := dk_16 100 (dk_at dksX1_settle_1 18 rfl rfl)
theorem dX1_settle_42 : decode cX1_settle 42 = .ok (.irem, 1) := dk_112 (dk_at dksX1_settle_1 20 rfl rfl)
theorem dX1_settle_43 : decode cX1_settle 43 = .ok (.iastore, 1) := dk_79 (dk_at dksX1_settle_1 21 rfl rfl)
theorem dX1_settle_44 : decode cX1_settle 44 = .ok (.iinc 2 1, 3) := dk_132 2 1 (dk_at dksX1_settle_2 0 rfl rfl)
theorem dX1_settle_47 : decode cX1_settle 47 = .ok (.aload_n 0, 1) := dk_42 (dk_at dksX1_settle_2 3 rfl rfl)
theorem dX1_settle_48 : decode cX1_settle 48 = .ok (.invokevirtual 198, 3) := dk_182 0 198 (dk_at dksX1_settle_2 4 rfl rfl)
theorem dX1_settle_51 : decode cX1_settle 51 = .ok (.istore_n 1, 1) := dk_60 (dk_at dksX1_settle_2 7 rfl rfl)
theorem dX1_settle_52 : decode cX1_settle 52 = .ok (.goto (-33), 3) := dk_167 255 223 (dk_at dksX1_settle_2 8 rfl rfl)
theorem dX1_settle_55 : decode cX1_settle 55 = .ok (.iload_n 2, 1) := dk_28 (dk_at dksX1_settle_2 11 rfl rfl)
theorem dX1_settle_56 : decode cX1_settle 56 = .ok (.ireturn, 1) := dk_172 (dk_at dksX1_settle_2 12 rfl rfl)
abbrev cX1_text : ByteArray := prog_1_method_41_code
def yX1_text : MethodName := ⟨RX1, "text", "()I"⟩
def dkwX1_text_2 : List UInt8 := [43, 180, 0, 249, 172, 77, 42, 44, 180, 0, 254, 181, 0, 237, 2, 44, 180, 1, 1, 100, 172]
abbrev dktX1_text_2 : List UInt8 := dkwX1_text_2 ++ []
def dkwX1_text_1 : List UInt8 := [183, 0, 242, 76, 42, 43, 182, 0, 245, 181, 0, 16, 42, 184, 0, 20, 181, 0, 24, 42, 3, 181, 0, 149]
abbrev dktX1_text_1 : List UInt8 := dkwX1_text_1 ++ dktX1_text_2
def dkwX1_text_0 : List UInt8 := [42, 42, 180, 0, 46, 181, 0, 234, 42, 3, 181, 0, 46, 42, 3, 181, 0, 237, 187, 0, 240, 89, 42]
abbrev dktX1_text_0 : List UInt8 := dkwX1_text_0 ++ dktX1_text_1
theorem dksX1_text_0 : cX1_text.data.toList.drop 0 = dktX1_text_0 := by decide +kernel
theorem dksX1_text_1 : cX1_text.data.toList.drop 23 = dktX1_text_1 := dk_seg dksX1_text_0 23 rfl rfl
theorem dksX1_text_2 : cX1_text.data.toList.drop 47 = dktX1_text_2 := dk_seg dksX1_text_1 24 rfl rfl
theorem dX1_text_0 : decode cX1_text 0 = .ok (.aload_n 0, 1) := dk_42 (dk_at dksX1_text_0 0 rfl rfl)
theorem dX1_text_1 : decode cX1_text 1 = .ok (.aload_n 0, 1) := dk_42 (dk_at dksX1_text_0 1 rfl rfl)
theorem dX1_text_2 : decode cX1_text 2 = .ok (.getfield 46, 3) := dk_180 0 46 (dk_at dksX1_text_0 2 rfl rfl)
theorem dX1_text_5 : decode cX1_text 5 = .ok (.putfield 234, 3) := dk_181 0 234 (dk_at dksX1_text_0 5 rfl rfl)
theorem dX1_text_8 : decode cX1_text 8 = .ok (.aload_n 0, 1) := dk_42 (dk_at dksX1_text_0 8 rfl rfl)
theorem dX1_text_9 : decode cX1_text 9 = .ok (.iconst 0, 1) := dk_3 (dk_at dksX1_text_0 9 rfl rfl)
theorem dX1_text_10 : decode cX1_text 10 = .ok (.putfield 46, 3) := dk_181 0 46 (dk_at dksX1_text_0 10 rfl rfl)
theorem dX1_text_13 : decode cX1_text 13 = .ok (.aload_n 0, 1) := dk_42 (dk_at dksX1_text_0 13 rfl rfl)
theorem dX1_text_14 : decode cX1_text 14 = .ok (.iconst 0, 1) := dk_3 (dk_at dksX1_text_0 14 rfl rfl)
theorem dX1_text_15 : decode cX1_text 15 = .ok (.putfield 237, 3) := dk_181 0 237 (dk_at dksX1_text_0 15 rfl rfl)
theorem dX1_text_18 : decode cX1_text 18 = .ok (.new 240, 3) := dk_187 0 240 (dk_at dksX1_text_0 18 rfl rfl)
theorem dX1_text_21 : decode cX1_text 21 = .ok (.dup, 1) := dk_89 (dk_at dksX1_text_0 21 rfl rfl)
theorem dX1_text_22 : decode cX1_text 22 = .ok (.aload_n 0, 1) := dk_42 (dk_at dksX1_text_0 22 rfl rfl)
theorem dX1_text_23 : decode cX1_text 23 = .ok (.invokespecial 242, 3) := dk_183 0 242 (dk_at dksX1_text_1 0 rfl rfl)
theorem dX1_text_26 : decode cX1_text 26 = .ok (.astore_n 1, 1) := dk_76 (dk_at dksX1_text_1 3 rfl rfl)
theorem dX1_text_27 : decode cX1_text 27 = .ok (.aload_n 0, 1) := dk_42 (dk_at dksX1_text_1 4 rfl rfl)
theorem dX1_text_28 : decode cX1_text 28 = .ok (.aload_n 1, 1) := dk_43 (dk_at dksX1_text_1 5 rfl rfl)
theorem dX1_text_29 : decode cX1_text 29 = .ok (.invokevirtual 245, 3) := dk_182 0 245 (dk_at dksX1_text_1 6 rfl rfl)
theorem dX1_text_32 : decode cX1_text 32 = .ok (.putfield 16, 3) := dk_181 0 16 (dk_at dksX1_text_1 9 rfl rfl)
theorem dX1_text_35 : decode cX1_text 35 = .ok (.aload_n 0, 1) := dk_42 (dk_at dksX1_text_1 12 rfl rfl)
theorem dX1_text_36 : decode cX1_text 36 = .ok (.invokestatic 20, 3) := dk_184 0 20 (dk_at dksX1_text_1 13 rfl rfl)
theorem dX1_text_39 : decode cX1_text 39 = .ok (.putfield 24, 3) := dk_181 0 24 (dk_at dksX1_text_1 16 rfl rfl)
theorem dX1_text_42 : decode cX1_text 42 = .ok (.aload_n 0, 1) := dk_42 (dk_at dksX1_text_1 19 rfl rfl)
theorem dX1_text_43 : decode cX1_text 43 = .ok (.iconst 0, 1) := dk_3 (dk_at dksX1_text_1 20 rfl rfl)
theorem dX1_text_44 : decode cX1_text 44 = .ok (.putfield 149, 3) := dk_181 0 149 (dk_at dksX1_text_1 21 rfl rfl)
theorem dX1_text_47 : decode cX1_text 47 = .ok (.aload_n 1, 1) := dk_43 (dk_at dksX1_text_2 0 rfl rfl)
theorem dX1_text_48 : decode cX1_text 48 = .ok (.getfield 249, 3) := dk_180 0 249 (dk_at dksX1_text_2 1 rfl rfl)
theorem dX1_text_51 : decode cX1_text 51 = .ok (.ireturn, 1) := dk_172 (dk_at dksX1_text_2 4 rfl rfl)
theorem dX1_text_52 : decode cX1_text 52 = .ok (.astore_n 2, 1) := dk_77 (dk_at dksX1_text_2 5 rfl rfl)
theorem dX1_text_53 : decode cX1_text 53 = .ok (.aload_n 0, 1) := dk_42 (dk_at dksX1_text_2 6 rfl rfl)
theorem dX1_text_54 : decode cX1_text 54 = .ok (.aload_n 2, 1) := dk_44 (dk_at dksX1_text_2 7 rfl rfl)
theorem dX1_text_55 : decode cX1_text 55 = .ok (.getfield 254, 3) := dk_180 0 254 (dk_at dksX1_text_2 8 rfl rfl)
theorem dX1_text_58 : decode cX1_text 58 = .ok (.putfield 237, 3) := dk_181 0 237 (dk_at dksX1_text_2 11 rfl rfl)
theorem dX1_text_61 : decode cX1_text 61 = .ok (.iconst (-1), 1) := dk_2 (dk_at dksX1_text_2 14 rfl rfl)
theorem dX1_text_62 : decode cX1_text 62 = .ok (.aload_n 2, 1) := dk_44 (dk_at dksX1_text_2 15 rfl rfl)
theorem dX1_text_63 : decode cX1_text 63 = .ok (.getfield 257, 3) := dk_180 1 1 (dk_at dksX1_text_2 16 rfl rfl)
theorem dX1_text_66 : decode cX1_text 66 = .ok (.isub, 1) := dk_100 (dk_at dksX1_text_2 19 rfl rfl)
theorem dX1_text_67 : decode cX1_text 67 = .ok (.ireturn, 1) := dk_172 (dk_at dksX1_text_2 20 rfl rfl)
abbrev cX1_fault : ByteArray := prog_1_method_42_code
def yX1_fault : MethodName := ⟨RX1, "fault", "()I"⟩
theorem dX1_fault_0 : decode cX1_fault 0 = .ok (.aload_n 0, 1) := by decide +kernel
theorem dX1_fault_1 : decode cX1_fault 1 = .ok (.getfield 237, 3) := by decide +kernel
theorem dX1_fault_4 : decode cX1_fault 4 = .ok (.ireturn, 1) := by decide +kernel
abbrev cX1_shift : ByteArray := prog_1_method_17_code
def yX1_shift : MethodName := ⟨RX1, "shift", "(II)I"⟩
def dkwX1_shift_4 : List UInt8 := [172, 187, 0, 152, 89, 183, 0, 154, 191]
abbrev dktX1_shift_4 : List UInt8 := dkwX1_shift_4 ++ []
def dkwX1_shift_3 : List UInt8 := [45, 180, 0, 110, 172, 45, 180, 0, 155, 172, 45, 180, 0, 158, 172, 45, 180, 0, 161, 172, 45, 180, 0, 162]
abbrev dktX1_shift_3 : List UInt8 := dkwX1_shift_3 ++ dktX1_shift_4
def dkwX1_shift_2 : List UInt8 := [170, 0, 0, 0, 0, 0, 0, 61, 0, 0, 0, 0, 0, 0, 0, 4, 0, 0, 0, 36, 0, 0, 0, 41, 0, 0, 0, 46, 0, 0, 0, 51, 0, 0, 0, 56]
abbrev dktX1_shift_2 : List UInt8 := dkwX1_shift_2 ++ dktX1_shift_3
def dkwX1_shift_1 : List UInt8 := [191, 42, 180, 0, 16, 180, 0, 102, 27, 50, 78, 28]
abbrev dktX1_shift_1 : List UInt8 := dkwX1_shift_1 ++ dktX1_shift_2
def dkwX1_shift_0 : List UInt8 := [27, 3, 42, 180, 0, 16, 180, 0, 137, 4, 100, 184, 0, 63, 154, 0, 11, 187, 0, 152, 89, 183, 0, 154]
abbrev dktX1_shift_0 : List UInt8 := dkwX1_shift_0 ++ dktX1_shift_1
theorem dksX1_shift_0 : cX1_shift.data.toList.drop 0 = dktX1_shift_0 := by decide +kernel
theorem dksX1_shift_1 : cX1_shift.data.toList.drop 24 = dktX1_shift_1 := dk_seg dksX1_shift_0 24 rfl rfl
theorem dksX1_shift_2 : cX1_shift.data.toList.drop 36 = dktX1_shift_2 := dk_seg dksX1_shift_1 12 rfl rfl
theorem dksX1_shift_3 : cX1_shift.data.toList.drop 72 = dktX1_shift_3 := dk_seg dksX1_shift_2 36 rfl rfl
theorem dksX1_shift_4 : cX1_shift.data.toList.drop 96 = dktX1_shift_4 := dk_seg dksX1_shift_3 24 rfl rfl
theorem dX1_shift_0 : decode cX1_shift 0 = .ok (.iload_n 1, 1) := dk_27 (dk_at dksX1_shift_0 0 rfl rfl)
theorem dX1_shift_1 : decode cX1_shift 1 = .ok (.iconst 0, 1) := dk_3 (dk_at dksX1_shift_0 1 rfl rfl)
theorem dX1_shift_2 : decode cX1_shift 2 = .ok (.aload_n 0, 1) := dk_42 (dk_at dksX1_shift_0 2 rfl rfl)
theorem dX1_shift_3 : decode cX1_shift 3 = .ok (.getfield 16, 3) := dk_180 0 16 (dk_at dksX1_shift_0 3 rfl rfl)
theorem dX1_shift_6 : decode cX1_shift 6 = .ok (.getfield 137, 3) := dk_180 0 137 (dk_at dksX1_shift_0 6 rfl rfl)
theorem dX1_shift_9 : decode cX1_shift 9 = .ok (.iconst 1, 1) := dk_4 (dk_at dksX1_shift_0 9 rfl rfl)
theorem dX1_shift_10 : decode cX1_shift 10 = .ok (.isub, 1) := dk_100 (dk_at dksX1_shift_0 10 rfl rfl)
theorem dX1_shift_11 : decode cX1_shift 11 = .ok (.invokestatic 63, 3) := dk_184 0 63 (dk_at dksX1_shift_0 11 rfl rfl)
theorem dX1_shift_14 : decode cX1_shift 14 = .ok (.ifCond .ne 11, 3) := dk_154 0 11 (dk_at dksX1_shift_0 14 rfl rfl)
theorem dX1_shift_17 : decode cX1_shift 17 = .ok (.new 152, 3) := dk_187 0 152 (dk_at dksX1_shift_0 17 rfl rfl)
theorem dX1_shift_20 : decode cX1_shift 20 = .ok (.dup, 1) := dk_89 (dk_at dksX1_shift_0 20 rfl rfl)
theorem dX1_shift_21 : decode cX1_shift 21 = .ok (.invokespecial 154, 3) := dk_183 0 154 (dk_at dksX1_shift_0 21 rfl rfl)
theorem dX1_shift_24 : decode cX1_shift 24 = .ok (.athrow, 1) := dk_191 (dk_at dksX1_shift_1 0 rfl rfl)
theorem dX1_shift_25 : decode cX1_shift 25 = .ok (.aload_n 0, 1) := dk_42 (dk_at dksX1_shift_1 1 rfl rfl)
theorem dX1_shift_26 : decode cX1_shift 26 = .ok (.getfield 16, 3) := dk_180 0 16 (dk_at dksX1_shift_1 2 rfl rfl)
theorem dX1_shift_29 : decode cX1_shift 29 = .ok (.getfield 102, 3) := dk_180 0 102 (dk_at dksX1_shift_1 5 rfl rfl)
theorem dX1_shift_32 : decode cX1_shift 32 = .ok (.iload_n 1, 1) := dk_27 (dk_at dksX1_shift_1 8 rfl rfl)
theorem dX1_shift_33 : decode cX1_shift 33 = .ok (.aaload, 1) := dk_50 (dk_at dksX1_shift_1 9 rfl rfl)
theorem dX1_shift_34 : decode cX1_shift 34 = .ok (.astore_n 3, 1) := dk_78 (dk_at dksX1_shift_1 10 rfl rfl)
theorem dX1_shift_35 : decode cX1_shift 35 = .ok (.iload_n 2, 1) := dk_28 (dk_at dksX1_shift_1 11 rfl rfl)
theorem dX1_shift_36 : decode cX1_shift 36 = .ok (.tableswitch 61 0 4 #[36, 41, 46, 51, 56], 36) := by decide +kernel
theorem dX1_shift_72 : decode cX1_shift 72 = .ok (.aload_n 3, 1) := dk_45 (dk_at dksX1_shift_3 0 rfl rfl)
theorem dX1_shift_73 : decode cX1_shift 73 = .ok (.getfield 110, 3) := dk_180 0 110 (dk_at dksX1_shift_3 1 rfl rfl)
theorem dX1_shift_76 : decode cX1_shift 76 = .ok (.ireturn, 1) := dk_172 (dk_at dksX1_shift_3 4 rfl rfl)
theorem dX1_shift_77 : decode cX1_shift 77 = .ok (.aload_n 3, 1) := dk_45 (dk_at dksX1_shift_3 5 rfl rfl)
theorem dX1_shift_78 : decode cX1_shift 78 = .ok (.getfield 155, 3) := dk_180 0 155 (dk_at dksX1_shift_3 6 rfl rfl)
theorem dX1_shift_81 : decode cX1_shift 81 = .ok (.ireturn, 1) := dk_172 (dk_at dksX1_shift_3 9 rfl rfl)
theorem dX1_shift_82 : decode cX1_shift 82 = .ok (.aload_n 3, 1) := dk_45 (dk_at dksX1_shift_3 10 rfl rfl)
theorem dX1_shift_83 : decode cX1_shift 83 = .ok (.getfield 158, 3) := dk_180 0 158 (dk_at dksX1_shift_3 11 rfl rfl)
theorem dX1_shift_86 : decode cX1_shift 86 = .ok (.ireturn, 1) := dk_172 (dk_at dksX1_shift_3 14 rfl rfl)
theorem dX1_shift_87 : decode cX1_shift 87 = .ok (.aload_n 3, 1) := dk_45 (dk_at dksX1_shift_3 15 rfl rfl)
theorem dX1_shift_88 : decode cX1_shift 88 = .ok (.getfield 161, 3) := dk_180 0 161 (dk_at dksX1_shift_3 16 rfl rfl)
theorem dX1_shift_91 : decode cX1_shift 91 = .ok (.ireturn, 1) := dk_172 (dk_at dksX1_shift_3 19 rfl rfl)
theorem dX1_shift_92 : decode cX1_shift 92 = .ok (.aload_n 3, 1) := dk_45 (dk_at dksX1_shift_3 20 rfl rfl)
theorem dX1_shift_93 : decode cX1_shift 93 = .ok (.getfield 162, 3) := dk_180 0 162 (dk_at dksX1_shift_3 21 rfl rfl)
theorem dX1_shift_96 : decode cX1_shift 96 = .ok (.ireturn, 1) := dk_172 (dk_at dksX1_shift_4 0 rfl rfl)
theorem dX1_shift_97 : decode cX1_shift 97 = .ok (.new 152, 3) := dk_187 0 152 (dk_at dksX1_shift_4 1 rfl rfl)
theorem dX1_shift_100 : decode cX1_shift 100 = .ok (.dup, 1) := dk_89 (dk_at dksX1_shift_4 4 rfl rfl)
theorem dX1_shift_101 : decode cX1_shift 101 = .ok (.invokespecial 154, 3) := dk_183 0 154 (dk_at dksX1_shift_4 5 rfl rfl)
theorem dX1_shift_104 : decode cX1_shift 104 = .ok (.athrow, 1) := dk_191 (dk_at dksX1_shift_4 8 rfl rfl)
abbrev cX1_pause : ByteArray := prog_1_method_18_code
def yX1_pause : MethodName := ⟨RX1, "pause", "(II)I"⟩
def dkwX1_pause_4 : List UInt8 := [27, 46, 172, 187, 0, 152, 89, 183, 0, 154, 191]
abbrev dktX1_pause_4 : List UInt8 := dkwX1_pause_4 ++ []
def dkwX1_pause_3 : List UInt8 := [45, 180, 0, 106, 172, 45, 180, 0, 115, 172, 45, 180, 0, 118, 172, 45, 180, 0, 121, 172, 42, 180, 0, 24]
abbrev dktX1_pause_3 : List UInt8 := dkwX1_pause_3 ++ dktX1_pause_4
def dkwX1_pause_2 : List UInt8 := [170, 0, 0, 0, 60, 0, 0, 0, 0, 0, 0, 0, 4, 0, 0, 0, 33, 0, 0, 0, 38, 0, 0, 0, 43, 0, 0, 0, 48, 0, 0, 0, 53]
abbrev dktX1_pause_2 : List UInt8 := dkwX1_pause_2 ++ dktX1_pause_3
def dkwX1_pause_1 : List UInt8 := [50, 78, 28]
abbrev dktX1_pause_1 : List UInt8 := dkwX1_pause_1 ++ dktX1_pause_2
def dkwX1_pause_0 : List UInt8 := [42, 27, 182, 0, 165, 154, 0, 11, 187, 0, 152, 89, 183, 0, 154, 191, 42, 180, 0, 16, 180, 0, 98, 27]
abbrev dktX1_pause_0 : List UInt8 := dkwX1_pause_0 ++ dktX1_pause_1
theorem dksX1_pause_0 : cX1_pause.data.toList.drop 0 = dktX1_pause_0 := by decide +kernel
theorem dksX1_pause_1 : cX1_pause.data.toList.drop 24 = dktX1_pause_1 := dk_seg dksX1_pause_0 24 rfl rfl
theorem dksX1_pause_2 : cX1_pause.data.toList.drop 27 = dktX1_pause_2 := dk_seg dksX1_pause_1 3 rfl rfl
theorem dksX1_pause_3 : cX1_pause.data.toList.drop 60 = dktX1_pause_3 := dk_seg dksX1_pause_2 33 rfl rfl
theorem dksX1_pause_4 : cX1_pause.data.toList.drop 84 = dktX1_pause_4 := dk_seg dksX1_pause_3 24 rfl rfl
theorem dX1_pause_0 : decode cX1_pause 0 = .ok (.aload_n 0, 1) := dk_42 (dk_at dksX1_pause_0 0 rfl rfl)
theorem dX1_pause_1 : decode cX1_pause 1 = .ok (.iload_n 1, 1) := dk_27 (dk_at dksX1_pause_0 1 rfl rfl)
theorem dX1_pause_2 : decode cX1_pause 2 = .ok (.invokevirtual 165, 3) := dk_182 0 165 (dk_at dksX1_pause_0 2 rfl rfl)
theorem dX1_pause_5 : decode cX1_pause 5 = .ok (.ifCond .ne 11, 3) := dk_154 0 11 (dk_at dksX1_pause_0 5 rfl rfl)
theorem dX1_pause_8 : decode cX1_pause 8 = .ok (.new 152, 3) := dk_187 0 152 (dk_at dksX1_pause_0 8 rfl rfl)
theorem dX1_pause_11 : decode cX1_pause 11 = .ok (.dup, 1) := dk_89 (dk_at dksX1_pause_0 11 rfl rfl)
theorem dX1_pause_12 : decode cX1_pause 12 = .ok (.invokespecial 154, 3) := dk_183 0 154 (dk_at dksX1_pause_0 12 rfl rfl)
theorem dX1_pause_15 : decode cX1_pause 15 = .ok (.athrow, 1) := dk_191 (dk_at dksX1_pause_0 15 rfl rfl)
theorem dX1_pause_16 : decode cX1_pause 16 = .ok (.aload_n 0, 1) := dk_42 (dk_at dksX1_pause_0 16 rfl rfl)
theorem dX1_pause_17 : decode cX1_pause 17 = .ok (.getfield 16, 3) := dk_180 0 16 (dk_at dksX1_pause_0 17 rfl rfl)
theorem dX1_pause_20 : decode cX1_pause 20 = .ok (.getfield 98, 3) := dk_180 0 98 (dk_at dksX1_pause_0 20 rfl rfl)
theorem dX1_pause_23 : decode cX1_pause 23 = .ok (.iload_n 1, 1) := dk_27 (dk_at dksX1_pause_0 23 rfl rfl)
theorem dX1_pause_24 : decode cX1_pause 24 = .ok (.aaload, 1) := dk_50 (dk_at dksX1_pause_1 0 rfl rfl)
theorem dX1_pause_25 : decode cX1_pause 25 = .ok (.astore_n 3, 1) := dk_78 (dk_at dksX1_pause_1 1 rfl rfl)
theorem dX1_pause_26 : decode cX1_pause 26 = .ok (.iload_n 2, 1) := dk_28 (dk_at dksX1_pause_1 2 rfl rfl)
theorem dX1_pause_27 : decode cX1_pause 27 = .ok (.tableswitch 60 0 4 #[33, 38, 43, 48, 53], 33) := by decide +kernel
theorem dX1_pause_60 : decode cX1_pause 60 = .ok (.aload_n 3, 1) := dk_45 (dk_at dksX1_pause_3 0 rfl rfl)
theorem dX1_pause_61 : decode cX1_pause 61 = .ok (.getfield 106, 3) := dk_180 0 106 (dk_at dksX1_pause_3 1 rfl rfl)
theorem dX1_pause_64 : decode cX1_pause 64 = .ok (.ireturn, 1) := dk_172 (dk_at dksX1_pause_3 4 rfl rfl)
theorem dX1_pause_65 : decode cX1_pause 65 = .ok (.aload_n 3, 1) := dk_45 (dk_at dksX1_pause_3 5 rfl rfl)
theorem dX1_pause_66 : decode cX1_pause 66 = .ok (.getfield 115, 3) := dk_180 0 115 (dk_at dksX1_pause_3 6 rfl rfl)
theorem dX1_pause_69 : decode cX1_pause 69 = .ok (.ireturn, 1) := dk_172 (dk_at dksX1_pause_3 9 rfl rfl)
theorem dX1_pause_70 : decode cX1_pause 70 = .ok (.aload_n 3, 1) := dk_45 (dk_at dksX1_pause_3 10 rfl rfl)
theorem dX1_pause_71 : decode cX1_pause 71 = .ok (.getfield 118, 3) := dk_180 0 118 (dk_at dksX1_pause_3 11 rfl rfl)
theorem dX1_pause_74 : decode cX1_pause 74 = .ok (.ireturn, 1) := dk_172 (dk_at dksX1_pause_3 14 rfl rfl)
theorem dX1_pause_75 : decode cX1_pause 75 = .ok (.aload_n 3, 1) := dk_45 (dk_at dksX1_pause_3 15 rfl rfl)
theorem dX1_pause_76 : decode cX1_pause 76 = .ok (.getfield 121, 3) := dk_180 0 121 (dk_at dksX1_pause_3 16 rfl rfl)
theorem dX1_pause_79 : decode cX1_pause 79 = .ok (.ireturn, 1) := dk_172 (dk_at dksX1_pause_3 19 rfl rfl)
theorem dX1_pause_80 : decode cX1_pause 80 = .ok (.aload_n 0, 1) := dk_42 (dk_at dksX1_pause_3 20 rfl rfl)
theorem dX1_pause_81 : decode cX1_pause 81 = .ok (.getfield 24, 3) := dk_180 0 24 (dk_at dksX1_pause_3 21 rfl rfl)
theorem dX1_pause_84 : decode cX1_pause 84 = .ok (.iload_n 1, 1) := dk_27 (dk_at dksX1_pause_4 0 rfl rfl)
theorem dX1_pause_85 : decode cX1_pause 85 = .ok (.iaload, 1) := dk_46 (dk_at dksX1_pause_4 1 rfl rfl)
theorem dX1_pause_86 : decode cX1_pause 86 = .ok (.ireturn, 1) := dk_172 (dk_at dksX1_pause_4 2 rfl rfl)
theorem dX1_pause_87 : decode cX1_pause 87 = .ok (.new 152, 3) := dk_187 0 152 (dk_at dksX1_pause_4 3 rfl rfl)
theorem dX1_pause_90 : decode cX1_pause 90 = .ok (.dup, 1) := dk_89 (dk_at dksX1_pause_4 6 rfl rfl)
theorem dX1_pause_91 : decode cX1_pause 91 = .ok (.invokespecial 154, 3) := dk_183 0 154 (dk_at dksX1_pause_4 7 rfl rfl)
theorem dX1_pause_94 : decode cX1_pause 94 = .ok (.athrow, 1) := dk_191 (dk_at dksX1_pause_4 10 rfl rfl)
theorem q71 : (Jvm.Cond.initialized "BreakSetter") ∈ lw_all := lw_g (lw_at lw_m1 1 rfl) rfl
theorem q112 : (Jvm.Cond.instantiable "BreakSetter" (13 : Nat)) ∈ lw_all := lw_g (lw_at lw_m1 42 rfl) rfl
theorem q114 : (Jvm.Cond.instanceMethod ({ cls := "BreakSetter", name := "<init>", desc := "()V" } : Jvm.MethodName)) ∈ lw_all := lw_g (lw_at lw_m1 44 rfl) rfl
theorem q115 : (Jvm.Cond.code ({ cls := "BreakSetter", name := "<init>", desc := "()V" } : Jvm.MethodName) prog_1_method_1_code (1 : Nat) (Option.none : Option Jvm.ClassFile.FieldType)) ∈ lw_all := lw_g (lw_at lw_m1 45 rfl) rfl
theorem q116 : (Jvm.Cond.methodLink "BreakSetter" (3 : Nat) ({ cls := "java/lang/Object", name := "<init>", desc := "()V" } : Jvm.MethodName)) ∈ lw_all := lw_g (lw_at lw_m1 46 rfl) rfl
theorem q119 : (Jvm.Cond.classLink "BreakSetter" (13 : Nat) "BreakSetter$Plan") ∈ lw_all := lw_g (lw_at lw_m1 49 rfl) rfl
theorem q121 : (Jvm.Cond.methodLinkNest "BreakSetter" (15 : Nat) ({ cls := "BreakSetter$Plan", name := "<init>", desc := "()V" } : Jvm.MethodName) "BreakSetter") ∈ lw_tbl := lw_at lw_m1 51 rfl
theorem q130 : (Jvm.Cond.fieldLinkNest "BreakSetter" (60 : Nat) "BreakSetter$Plan" "posts" "I" "BreakSetter") ∈ lw_tbl := lw_at lw_m1 60 rfl
theorem q134 : (Jvm.Cond.fieldLinkNest "BreakSetter" (146 : Nat) "BreakSetter$Plan" "walk" "I" "BreakSetter") ∈ lw_tbl := lw_at lw_m1 64 rfl
theorem q137 : (Jvm.Cond.fieldLinkNest "BreakSetter" (137 : Nat) "BreakSetter$Plan" "shifts" "I" "BreakSetter") ∈ lw_tbl := lw_at lw_m1 67 rfl
theorem q139 : (Jvm.Cond.fieldLinkNest "BreakSetter" (67 : Nat) "BreakSetter$Plan" "pauses" "I" "BreakSetter") ∈ lw_tbl := lw_at lw_m1 69 rfl
theorem q142 : (Jvm.Cond.fieldLinkNest "BreakSetter" (102 : Nat) "BreakSetter$Plan" "shift" "[LBreakSetter$Shift;" "BreakSetter") ∈ lw_tbl := lw_at lw_m1 72 rfl
theorem q144 : (Jvm.Cond.fieldLinkNest "BreakSetter" (98 : Nat) "BreakSetter$Plan" "pause" "[LBreakSetter$Pause;" "BreakSetter") ∈ lw_tbl := lw_at lw_m1 74 rfl
theorem q146 : (Jvm.Cond.fieldLinkNest "BreakSetter" (88 : Nat) "BreakSetter$Plan" "need" "[I" "BreakSetter") ∈ lw_tbl := lw_at lw_m1 76 rfl
theorem q149 : (Jvm.Cond.fieldLinkNest "BreakSetter" (76 : Nat) "BreakSetter$Plan" "duty" "[I" "BreakSetter") ∈ lw_tbl := lw_at lw_m1 79 rfl
theorem q171 : (Jvm.Cond.methodLink "BreakSetter" (20 : Nat) ({ cls := "BreakSetter", name := "nowhere", desc := "()[I" } : Jvm.MethodName)) ∈ lw_all := lw_g (lw_at lw_m1 101 rfl) rfl
theorem q172 : (Jvm.Cond.static ({ cls := "BreakSetter", name := "nowhere", desc := "()[I" } : Jvm.MethodName)) ∈ lw_all := lw_g (lw_at lw_m1 102 rfl) rfl
theorem q173 : (Jvm.Cond.code ({ cls := "BreakSetter", name := "nowhere", desc := "()[I" } : Jvm.MethodName) prog_1_method_6_code (1 : Nat) (Option.some (Jvm.ClassFile.FieldType.array Jvm.ClassFile.FieldType.int))) ∈ lw_all := lw_g (lw_at lw_m1 103 rfl) rfl
theorem q174 : (Jvm.Cond.methodLink "BreakSetter" (54 : Nat) ({ cls := "java/util/Arrays", name := "fill", desc := "([II)V" } : Jvm.MethodName)) ∈ lw_all := lw_g (lw_at lw_m1 104 rfl) rfl
theorem q177 : (Jvm.Cond.classLink "BreakSetter" (41 : Nat) "[I") ∈ lw_all := lw_g (lw_at lw_m1 107 rfl) rfl
theorem q179 : (Jvm.Cond.fieldLink "BreakSetter" (9 : Nat) "BreakSetter" "tape" "[B") ∈ lw_all := lw_g (lw_at lw_m1 109 rfl) rfl
theorem q181 : (Jvm.Cond.fieldLink "BreakSetter" (46 : Nat) "BreakSetter" "length" "I") ∈ lw_all := lw_g (lw_at lw_m1 111 rfl) rfl
theorem q183 : (Jvm.Cond.fieldLink "BreakSetter" (234 : Nat) "BreakSetter" "size" "I") ∈ lw_all := lw_g (lw_at lw_m1 113 rfl) rfl
theorem q184 : (Jvm.Cond.fieldLink "BreakSetter" (16 : Nat) "BreakSetter" "plan" "LBreakSetter$Plan;") ∈ lw_all := lw_g (lw_at lw_m1 114 rfl) rfl
theorem q186 : (Jvm.Cond.fieldLink "BreakSetter" (24 : Nat) "BreakSetter" "at" "[I") ∈ lw_all := lw_g (lw_at lw_m1 116 rfl) rfl
theorem q187 : (Jvm.Cond.fieldLink "BreakSetter" (28 : Nat) "BreakSetter" "cover" "[I") ∈ lw_all := lw_g (lw_at lw_m1 117 rfl) rfl
theorem q189 : (Jvm.Cond.fieldLink "BreakSetter" (85 : Nat) "BreakSetter" "shortfall" "I") ∈ lw_all := lw_g (lw_at lw_m1 119 rfl) rfl
theorem q190 : (Jvm.Cond.fieldLink "BreakSetter" (31 : Nat) "BreakSetter" "taker" "[I") ∈ lw_all := lw_g (lw_at lw_m1 120 rfl) rfl
theorem q191 : (Jvm.Cond.fieldLink "BreakSetter" (34 : Nat) "BreakSetter" "isSeen" "[Z") ∈ lw_all := lw_g (lw_at lw_m1 121 rfl) rfl
theorem q192 : (Jvm.Cond.fieldLink "BreakSetter" (38 : Nat) "BreakSetter" "helps" "[I") ∈ lw_all := lw_g (lw_at lw_m1 122 rfl) rfl
theorem q193 : (Jvm.Cond.fieldLink "BreakSetter" (42 : Nat) "BreakSetter" "backs" "[[I") ∈ lw_all := lw_g (lw_at lw_m1 123 rfl) rfl
theorem q194 : (Jvm.Cond.fieldLink "BreakSetter" (149 : Nat) "BreakSetter" "undoMany" "I") ∈ lw_all := lw_g (lw_at lw_m1 124 rfl) rfl
theorem q195 : (Jvm.Cond.fieldLink "BreakSetter" (237 : Nat) "BreakSetter" "fault" "I") ∈ lw_all := lw_g (lw_at lw_m1 125 rfl) rfl
theorem q196 : (Jvm.Cond.laysFinal "BreakSetter" "BreakSetter" "tape" "[B") ∈ lw_all := lw_g (lw_at lw_m1 126 rfl) rfl
theorem q197 : (Jvm.Cond.soleField "BreakSetter" "tape") ∈ lw_all := lw_g (lw_at lw_m1 127 rfl) rfl
theorem q198 : (Jvm.Cond.lays "BreakSetter" "BreakSetter" "length" "I") ∈ lw_all := lw_g (lw_at lw_m1 128 rfl) rfl
theorem q199 : (Jvm.Cond.soleField "BreakSetter" "length") ∈ lw_all := lw_g (lw_at lw_m1 129 rfl) rfl
theorem q200 : (Jvm.Cond.lays "BreakSetter" "BreakSetter" "size" "I") ∈ lw_all := lw_g (lw_at lw_m1 130 rfl) rfl
theorem q201 : (Jvm.Cond.soleField "BreakSetter" "size") ∈ lw_all := lw_g (lw_at lw_m1 131 rfl) rfl
theorem q202 : (Jvm.Cond.lays "BreakSetter" "BreakSetter" "plan" "LBreakSetter$Plan;") ∈ lw_all := lw_g (lw_at lw_m1 132 rfl) rfl
theorem q203 : (Jvm.Cond.soleField "BreakSetter" "plan") ∈ lw_all := lw_g (lw_at lw_m1 133 rfl) rfl
theorem q204 : (Jvm.Cond.lays "BreakSetter" "BreakSetter" "at" "[I") ∈ lw_all := lw_g (lw_at lw_m1 134 rfl) rfl
theorem q205 : (Jvm.Cond.soleField "BreakSetter" "at") ∈ lw_all := lw_g (lw_at lw_m1 135 rfl) rfl
theorem q206 : (Jvm.Cond.laysFinal "BreakSetter" "BreakSetter" "cover" "[I") ∈ lw_all := lw_g (lw_at lw_m1 136 rfl) rfl
theorem q207 : (Jvm.Cond.soleField "BreakSetter" "cover") ∈ lw_all := lw_g (lw_at lw_m1 137 rfl) rfl
theorem q208 : (Jvm.Cond.lays "BreakSetter" "BreakSetter" "shortfall" "I") ∈ lw_all := lw_g (lw_at lw_m1 138 rfl) rfl
theorem q209 : (Jvm.Cond.soleField "BreakSetter" "shortfall") ∈ lw_all := lw_g (lw_at lw_m1 139 rfl) rfl
theorem q210 : (Jvm.Cond.laysFinal "BreakSetter" "BreakSetter" "taker" "[I") ∈ lw_all := lw_g (lw_at lw_m1 140 rfl) rfl
theorem q211 : (Jvm.Cond.soleField "BreakSetter" "taker") ∈ lw_all := lw_g (lw_at lw_m1 141 rfl) rfl
theorem q212 : (Jvm.Cond.laysFinal "BreakSetter" "BreakSetter" "isSeen" "[Z") ∈ lw_all := lw_g (lw_at lw_m1 142 rfl) rfl
theorem q213 : (Jvm.Cond.soleField "BreakSetter" "isSeen") ∈ lw_all := lw_g (lw_at lw_m1 143 rfl) rfl
theorem q214 : (Jvm.Cond.laysFinal "BreakSetter" "BreakSetter" "helps" "[I") ∈ lw_all := lw_g (lw_at lw_m1 144 rfl) rfl
theorem q215 : (Jvm.Cond.soleField "BreakSetter" "helps") ∈ lw_all := lw_g (lw_at lw_m1 145 rfl) rfl
theorem q216 : (Jvm.Cond.laysFinal "BreakSetter" "BreakSetter" "backs" "[[I") ∈ lw_all := lw_g (lw_at lw_m1 146 rfl) rfl
theorem q217 : (Jvm.Cond.soleField "BreakSetter" "backs") ∈ lw_all := lw_g (lw_at lw_m1 147 rfl) rfl
theorem q218 : (Jvm.Cond.lays "BreakSetter" "BreakSetter" "undoMany" "I") ∈ lw_all := lw_g (lw_at lw_m1 148 rfl) rfl
theorem q219 : (Jvm.Cond.soleField "BreakSetter" "undoMany") ∈ lw_all := lw_g (lw_at lw_m1 149 rfl) rfl
theorem q220 : (Jvm.Cond.lays "BreakSetter" "BreakSetter" "fault" "I") ∈ lw_all := lw_g (lw_at lw_m1 150 rfl) rfl
theorem q221 : (Jvm.Cond.soleField "BreakSetter" "fault") ∈ lw_all := lw_g (lw_at lw_m1 151 rfl) rfl
theorem q222 : (Jvm.Cond.superclass "BreakSetter" "java/lang/Object") ∈ lw_all := lw_g (lw_at lw_m1 152 rfl) rfl
theorem q225 : (Jvm.Cond.instanceMethod ({ cls := "BreakSetter", name := "feed", desc := "(IIIII)I" } : Jvm.MethodName)) ∈ lw_all := lw_g (lw_at lw_m1 155 rfl) rfl
theorem q226 : (Jvm.Cond.selects "BreakSetter" ({ cls := "BreakSetter", name := "feed", desc := "(IIIII)I" } : Jvm.MethodName) ({ cls := "BreakSetter", name := "feed", desc := "(IIIII)I" } : Jvm.MethodName)) ∈ lw_all := lw_g (lw_at lw_m1 156 rfl) rfl
theorem q227 : (Jvm.Cond.code ({ cls := "BreakSetter", name := "feed", desc := "(IIIII)I" } : Jvm.MethodName) prog_1_method_2_code (6 : Nat) (Option.some Jvm.ClassFile.FieldType.int)) ∈ lw_all := lw_g (lw_at lw_m1 157 rfl) rfl
theorem q228 : (Jvm.Cond.methodLink "BreakSetter" (50 : Nat) ({ cls := "BreakSetter", name := "puts", desc := "([I)I" } : Jvm.MethodName)) ∈ lw_all := lw_g (lw_at lw_m1 158 rfl) rfl
theorem q229 : (Jvm.Cond.privateMethod ({ cls := "BreakSetter", name := "puts", desc := "([I)I" } : Jvm.MethodName)) ∈ lw_tbl := lw_at lw_m1 159 rfl
theorem q230 : (Jvm.Cond.instanceMethod ({ cls := "BreakSetter", name := "puts", desc := "([I)I" } : Jvm.MethodName)) ∈ lw_all := lw_g (lw_at lw_m1 160 rfl) rfl
theorem q231 : (Jvm.Cond.code ({ cls := "BreakSetter", name := "puts", desc := "([I)I" } : Jvm.MethodName) prog_1_method_3_code (7 : Nat) (Option.some Jvm.ClassFile.FieldType.int)) ∈ lw_all := lw_g (lw_at lw_m1 161 rfl) rfl
theorem q233 : (Jvm.Cond.instanceMethod ({ cls := "BreakSetter", name := "end", desc := "(I)Z" } : Jvm.MethodName)) ∈ lw_all := lw_g (lw_at lw_m1 163 rfl) rfl
theorem q234 : (Jvm.Cond.selects "BreakSetter" ({ cls := "BreakSetter", name := "end", desc := "(I)Z" } : Jvm.MethodName) ({ cls := "BreakSetter", name := "end", desc := "(I)Z" } : Jvm.MethodName)) ∈ lw_all := lw_g (lw_at lw_m1 164 rfl) rfl
theorem q235 : (Jvm.Cond.code ({ cls := "BreakSetter", name := "end", desc := "(I)Z" } : Jvm.MethodName) prog_1_method_4_code (2 : Nat) (Option.some Jvm.ClassFile.FieldType.boolean)) ∈ lw_all := lw_g (lw_at lw_m1 165 rfl) rfl
theorem q237 : (Jvm.Cond.instanceMethod ({ cls := "BreakSetter", name := "now", desc := "(I)I" } : Jvm.MethodName)) ∈ lw_all := lw_g (lw_at lw_m1 167 rfl) rfl
theorem q238 : (Jvm.Cond.selects "BreakSetter" ({ cls := "BreakSetter", name := "now", desc := "(I)I" } : Jvm.MethodName) ({ cls := "BreakSetter", name := "now", desc := "(I)I" } : Jvm.MethodName)) ∈ lw_all := lw_g (lw_at lw_m1 168 rfl) rfl
theorem q239 : (Jvm.Cond.code ({ cls := "BreakSetter", name := "now", desc := "(I)I" } : Jvm.MethodName) prog_1_method_16_code (2 : Nat) (Option.some Jvm.ClassFile.FieldType.int)) ∈ lw_all := lw_g (lw_at lw_m1 169 rfl) rfl
theorem q240 : (Jvm.Cond.methodLink "BreakSetter" (139 : Nat) ({ cls := "BreakSetter", name := "placed", desc := "()I" } : Jvm.MethodName)) ∈ lw_all := lw_g (lw_at lw_m1 170 rfl) rfl
theorem q241 : (Jvm.Cond.privateMethod ({ cls := "BreakSetter", name := "placed", desc := "()I" } : Jvm.MethodName)) ∈ lw_tbl := lw_at lw_m1 171 rfl
theorem q242 : (Jvm.Cond.instanceMethod ({ cls := "BreakSetter", name := "placed", desc := "()I" } : Jvm.MethodName)) ∈ lw_all := lw_g (lw_at lw_m1 172 rfl) rfl
theorem q243 : (Jvm.Cond.code ({ cls := "BreakSetter", name := "placed", desc := "()I" } : Jvm.MethodName) prog_1_method_15_code (6 : Nat) (Option.some Jvm.ClassFile.FieldType.int)) ∈ lw_all := lw_g (lw_at lw_m1 173 rfl) rfl
theorem q244 : (Jvm.Cond.methodLink "BreakSetter" (143 : Nat) ({ cls := "BreakSetter", name := "laysCover", desc := "()V" } : Jvm.MethodName)) ∈ lw_all := lw_g (lw_at lw_m1 174 rfl) rfl
theorem q245 : (Jvm.Cond.privateMethod ({ cls := "BreakSetter", name := "laysCover", desc := "()V" } : Jvm.MethodName)) ∈ lw_tbl := lw_at lw_m1 175 rfl
theorem q246 : (Jvm.Cond.instanceMethod ({ cls := "BreakSetter", name := "laysCover", desc := "()V" } : Jvm.MethodName)) ∈ lw_all := lw_g (lw_at lw_m1 176 rfl) rfl
theorem q247 : (Jvm.Cond.code ({ cls := "BreakSetter", name := "laysCover", desc := "()V" } : Jvm.MethodName) prog_1_method_11_code (2 : Nat) (Option.none : Option Jvm.ClassFile.FieldType)) ∈ lw_all := lw_g (lw_at lw_m1 177 rfl) rfl
theorem q248 : (Jvm.Cond.methodLink "BreakSetter" (79 : Nat) ({ cls := "java/lang/System", name := "arraycopy", desc := "(Ljava/lang/Object;ILjava/lang/Object;II)V" } : Jvm.MethodName)) ∈ lw_all := lw_g (lw_at lw_m1 178 rfl) rfl
theorem q251 : (Jvm.Cond.methodLink "BreakSetter" (91 : Nat) ({ cls := "BreakSetter", name := "shortOf", desc := "(II)I" } : Jvm.MethodName)) ∈ lw_all := lw_g (lw_at lw_m1 181 rfl) rfl
theorem q252 : (Jvm.Cond.static ({ cls := "BreakSetter", name := "shortOf", desc := "(II)I" } : Jvm.MethodName)) ∈ lw_all := lw_g (lw_at lw_m1 182 rfl) rfl
theorem q253 : (Jvm.Cond.code ({ cls := "BreakSetter", name := "shortOf", desc := "(II)I" } : Jvm.MethodName) prog_1_method_10_code (2 : Nat) (Option.some Jvm.ClassFile.FieldType.int)) ∈ lw_all := lw_g (lw_at lw_m1 183 rfl) rfl
theorem q254 : (Jvm.Cond.methodLink "BreakSetter" (70 : Nat) ({ cls := "java/lang/Math", name := "max", desc := "(II)I" } : Jvm.MethodName)) ∈ lw_all := lw_g (lw_at lw_m1 184 rfl) rfl
theorem q257 : (Jvm.Cond.methodLink "BreakSetter" (94 : Nat) ({ cls := "BreakSetter", name := "shifts", desc := "(III)V" } : Jvm.MethodName)) ∈ lw_all := lw_g (lw_at lw_m1 187 rfl) rfl
theorem q258 : (Jvm.Cond.privateMethod ({ cls := "BreakSetter", name := "shifts", desc := "(III)V" } : Jvm.MethodName)) ∈ lw_tbl := lw_at lw_m1 188 rfl
theorem q259 : (Jvm.Cond.instanceMethod ({ cls := "BreakSetter", name := "shifts", desc := "(III)V" } : Jvm.MethodName)) ∈ lw_all := lw_g (lw_at lw_m1 189 rfl) rfl
theorem q260 : (Jvm.Cond.code ({ cls := "BreakSetter", name := "shifts", desc := "(III)V" } : Jvm.MethodName) prog_1_method_12_code (7 : Nat) (Option.none : Option Jvm.ClassFile.FieldType)) ∈ lw_all := lw_g (lw_at lw_m1 190 rfl) rfl
theorem q262 : (Jvm.Cond.instanceMethod ({ cls := "BreakSetter", name := "slot", desc := "(III)I" } : Jvm.MethodName)) ∈ lw_all := lw_g (lw_at lw_m1 192 rfl) rfl
theorem q263 : (Jvm.Cond.selects "BreakSetter" ({ cls := "BreakSetter", name := "slot", desc := "(III)I" } : Jvm.MethodName) ({ cls := "BreakSetter", name := "slot", desc := "(III)I" } : Jvm.MethodName)) ∈ lw_all := lw_g (lw_at lw_m1 193 rfl) rfl
theorem q264 : (Jvm.Cond.code ({ cls := "BreakSetter", name := "slot", desc := "(III)I" } : Jvm.MethodName) prog_1_method_19_code (5 : Nat) (Option.some Jvm.ClassFile.FieldType.int)) ∈ lw_all := lw_g (lw_at lw_m1 194 rfl) rfl
theorem q265 : (Jvm.Cond.methodLink "BreakSetter" (169 : Nat) ({ cls := "BreakSetter", name := "isPost", desc := "(I)Z" } : Jvm.MethodName)) ∈ lw_all := lw_g (lw_at lw_m1 195 rfl) rfl
theorem q266 : (Jvm.Cond.privateMethod ({ cls := "BreakSetter", name := "isPost", desc := "(I)Z" } : Jvm.MethodName)) ∈ lw_tbl := lw_at lw_m1 196 rfl
theorem q267 : (Jvm.Cond.instanceMethod ({ cls := "BreakSetter", name := "isPost", desc := "(I)Z" } : Jvm.MethodName)) ∈ lw_all := lw_g (lw_at lw_m1 197 rfl) rfl
theorem q268 : (Jvm.Cond.code ({ cls := "BreakSetter", name := "isPost", desc := "(I)Z" } : Jvm.MethodName) prog_1_method_7_code (2 : Nat) (Option.some Jvm.ClassFile.FieldType.boolean)) ∈ lw_all := lw_g (lw_at lw_m1 198 rfl) rfl
theorem q269 : (Jvm.Cond.methodLink "BreakSetter" (63 : Nat) ({ cls := "BreakSetter", name := "isIn", desc := "(III)Z" } : Jvm.MethodName)) ∈ lw_all := lw_g (lw_at lw_m1 199 rfl) rfl
theorem q270 : (Jvm.Cond.static ({ cls := "BreakSetter", name := "isIn", desc := "(III)Z" } : Jvm.MethodName)) ∈ lw_all := lw_g (lw_at lw_m1 200 rfl) rfl
theorem q271 : (Jvm.Cond.code ({ cls := "BreakSetter", name := "isIn", desc := "(III)Z" } : Jvm.MethodName) prog_1_method_5_code (3 : Nat) (Option.some Jvm.ClassFile.FieldType.boolean)) ∈ lw_all := lw_g (lw_at lw_m1 201 rfl) rfl
theorem q272 : (Jvm.Cond.methodLink "BreakSetter" (172 : Nat) ({ cls := "BreakSetter", name := "isSlot", desc := "(I)Z" } : Jvm.MethodName)) ∈ lw_all := lw_g (lw_at lw_m1 202 rfl) rfl
theorem q273 : (Jvm.Cond.static ({ cls := "BreakSetter", name := "isSlot", desc := "(I)Z" } : Jvm.MethodName)) ∈ lw_all := lw_g (lw_at lw_m1 203 rfl) rfl
theorem q274 : (Jvm.Cond.code ({ cls := "BreakSetter", name := "isSlot", desc := "(I)Z" } : Jvm.MethodName) prog_1_method_9_code (1 : Nat) (Option.some Jvm.ClassFile.FieldType.boolean)) ∈ lw_all := lw_g (lw_at lw_m1 204 rfl) rfl
theorem q276 : (Jvm.Cond.instanceMethod ({ cls := "BreakSetter", name := "why", desc := "(II)I" } : Jvm.MethodName)) ∈ lw_all := lw_g (lw_at lw_m1 206 rfl) rfl
theorem q277 : (Jvm.Cond.selects "BreakSetter" ({ cls := "BreakSetter", name := "why", desc := "(II)I" } : Jvm.MethodName) ({ cls := "BreakSetter", name := "why", desc := "(II)I" } : Jvm.MethodName)) ∈ lw_all := lw_g (lw_at lw_m1 207 rfl) rfl
theorem q278 : (Jvm.Cond.code ({ cls := "BreakSetter", name := "why", desc := "(II)I" } : Jvm.MethodName) prog_1_method_20_code (3 : Nat) (Option.some Jvm.ClassFile.FieldType.int)) ∈ lw_all := lw_g (lw_at lw_m1 208 rfl) rfl
theorem q279 : (Jvm.Cond.methodLink "BreakSetter" (165 : Nat) ({ cls := "BreakSetter", name := "isPause", desc := "(I)Z" } : Jvm.MethodName)) ∈ lw_all := lw_g (lw_at lw_m1 209 rfl) rfl
theorem q280 : (Jvm.Cond.privateMethod ({ cls := "BreakSetter", name := "isPause", desc := "(I)Z" } : Jvm.MethodName)) ∈ lw_tbl := lw_at lw_m1 210 rfl
theorem q281 : (Jvm.Cond.instanceMethod ({ cls := "BreakSetter", name := "isPause", desc := "(I)Z" } : Jvm.MethodName)) ∈ lw_all := lw_g (lw_at lw_m1 211 rfl) rfl
theorem q282 : (Jvm.Cond.code ({ cls := "BreakSetter", name := "isPause", desc := "(I)Z" } : Jvm.MethodName) prog_1_method_8_code (2 : Nat) (Option.some Jvm.ClassFile.FieldType.boolean)) ∈ lw_all := lw_g (lw_at lw_m1 212 rfl) rfl
theorem q283 : (Jvm.Cond.methodLink "BreakSetter" (128 : Nat) ({ cls := "BreakSetter", name := "whyNot", desc := "(II)I" } : Jvm.MethodName)) ∈ lw_all := lw_g (lw_at lw_m1 213 rfl) rfl
theorem q284 : (Jvm.Cond.privateMethod ({ cls := "BreakSetter", name := "whyNot", desc := "(II)I" } : Jvm.MethodName)) ∈ lw_tbl := lw_at lw_m1 214 rfl
theorem q285 : (Jvm.Cond.instanceMethod ({ cls := "BreakSetter", name := "whyNot", desc := "(II)I" } : Jvm.MethodName)) ∈ lw_all := lw_g (lw_at lw_m1 215 rfl) rfl
theorem q286 : (Jvm.Cond.code ({ cls := "BreakSetter", name := "whyNot", desc := "(II)I" } : Jvm.MethodName) prog_1_method_13_code (5 : Nat) (Option.some Jvm.ClassFile.FieldType.int)) ∈ lw_all := lw_g (lw_at lw_m1 216 rfl) rfl
theorem q287 : (Jvm.Cond.methodLink "BreakSetter" (124 : Nat) ({ cls := "BreakSetter$Pause", name := "touches", desc := "(ILBreakSetter$Pause;I)Z" } : Jvm.MethodName)) ∈ lw_all := lw_g (lw_at lw_m1 217 rfl) rfl
theorem q292 : (Jvm.Cond.instanceMethod ({ cls := "BreakSetter", name := "would", desc := "(II)I" } : Jvm.MethodName)) ∈ lw_all := lw_g (lw_at lw_m1 222 rfl) rfl
theorem q293 : (Jvm.Cond.selects "BreakSetter" ({ cls := "BreakSetter", name := "would", desc := "(II)I" } : Jvm.MethodName) ({ cls := "BreakSetter", name := "would", desc := "(II)I" } : Jvm.MethodName)) ∈ lw_all := lw_g (lw_at lw_m1 223 rfl) rfl
theorem q294 : (Jvm.Cond.codeWith ({ cls := "BreakSetter", name := "would", desc := "(II)I" } : Jvm.MethodName) prog_1_method_21_code (6 : Nat) (Option.some Jvm.ClassFile.FieldType.int) [((25 : Nat), (32 : Nat), (39 : Nat), (184 : Nat)), ((41 : Nat), (45 : Nat), (48 : Nat), (184 : Nat))]) ∈ lw_all := lw_g (lw_at lw_m1 224 rfl) rfl
theorem q295 : (Jvm.Cond.classLink "BreakSetter" (184 : Nat) "java/lang/Throwable") ∈ lw_all := lw_g (lw_at lw_m1 225 rfl) rfl
theorem q296 : (Jvm.Cond.methodLink "BreakSetter" (175 : Nat) ({ cls := "BreakSetter", name := "why", desc := "(II)I" } : Jvm.MethodName)) ∈ lw_all := lw_g (lw_at lw_m1 226 rfl) rfl
theorem q297 : (Jvm.Cond.classLink "BreakSetter" (132 : Nat) "BreakSetter$Trial") ∈ lw_all := lw_g (lw_at lw_m1 227 rfl) rfl
theorem q299 : (Jvm.Cond.methodLink "BreakSetter" (178 : Nat) ({ cls := "BreakSetter$Trial", name := "<init>", desc := "(LBreakSetter;I)V" } : Jvm.MethodName)) ∈ lw_all := lw_g (lw_at lw_m1 229 rfl) rfl
theorem q314 : (Jvm.Cond.methodLink "BreakSetter" (131 : Nat) ({ cls := "BreakSetter$Trial", name := "by", desc := "(I)I" } : Jvm.MethodName)) ∈ lw_all := lw_g (lw_at lw_m2 4 rfl) rfl
theorem q318 : (Jvm.Cond.methodLink "BreakSetter" (181 : Nat) ({ cls := "BreakSetter$Trial", name := "close", desc := "()V" } : Jvm.MethodName)) ∈ lw_all := lw_g (lw_at lw_m2 8 rfl) rfl
theorem q322 : (Jvm.Cond.methodLink "BreakSetter" (186 : Nat) ({ cls := "java/lang/Throwable", name := "addSuppressed", desc := "(Ljava/lang/Throwable;)V" } : Jvm.MethodName)) ∈ lw_all := lw_g (lw_at lw_m2 12 rfl) rfl
theorem q884 : (Jvm.Cond.selects "BreakSetter" ({ cls := "java/lang/Object", name := "getClass", desc := "()Ljava/lang/Class;" } : Jvm.MethodName) ({ cls := "java/lang/Object", name := "getClass", desc := "()Ljava/lang/Class;" } : Jvm.MethodName)) ∈ lw_all := lw_g (lw_at lw_m4 94 rfl) rfl
theorem q939 : (Jvm.Cond.instanceMethod ({ cls := "BreakSetter", name := "best", desc := "(I)I" } : Jvm.MethodName)) ∈ lw_all := lw_g (lw_at lw_m4 149 rfl) rfl
theorem q940 : (Jvm.Cond.selects "BreakSetter" ({ cls := "BreakSetter", name := "best", desc := "(I)I" } : Jvm.MethodName) ({ cls := "BreakSetter", name := "best", desc := "(I)I" } : Jvm.MethodName)) ∈ lw_all := lw_g (lw_at lw_m4 150 rfl) rfl
theorem q941 : (Jvm.Cond.code ({ cls := "BreakSetter", name := "best", desc := "(I)I" } : Jvm.MethodName) prog_1_method_23_code (3 : Nat) (Option.some Jvm.ClassFile.FieldType.int)) ∈ lw_all := lw_g (lw_at lw_m4 151 rfl) rfl
theorem q942 : (Jvm.Cond.methodLink "BreakSetter" (194 : Nat) ({ cls := "BreakSetter", name := "bestOf", desc := "(I)I" } : Jvm.MethodName)) ∈ lw_all := lw_g (lw_at lw_m4 152 rfl) rfl
theorem q943 : (Jvm.Cond.privateMethod ({ cls := "BreakSetter", name := "bestOf", desc := "(I)I" } : Jvm.MethodName)) ∈ lw_tbl := lw_at lw_m4 153 rfl
theorem q944 : (Jvm.Cond.instanceMethod ({ cls := "BreakSetter", name := "bestOf", desc := "(I)I" } : Jvm.MethodName)) ∈ lw_all := lw_g (lw_at lw_m4 154 rfl) rfl
theorem q945 : (Jvm.Cond.codeWith ({ cls := "BreakSetter", name := "bestOf", desc := "(I)I" } : Jvm.MethodName) prog_1_method_22_code (5 : Nat) (Option.some Jvm.ClassFile.FieldType.int) [((10 : Nat), (18 : Nat), (24 : Nat), (184 : Nat)), ((25 : Nat), (29 : Nat), (32 : Nat), (184 : Nat))]) ∈ lw_all := lw_g (lw_at lw_m4 155 rfl) rfl
theorem q946 : (Jvm.Cond.methodLink "BreakSetter" (190 : Nat) ({ cls := "BreakSetter", name := "leastSlot", desc := "(IILBreakSetter$Trial;)I" } : Jvm.MethodName)) ∈ lw_all := lw_g (lw_at lw_m4 156 rfl) rfl
theorem q947 : (Jvm.Cond.privateMethod ({ cls := "BreakSetter", name := "leastSlot", desc := "(IILBreakSetter$Trial;)I" } : Jvm.MethodName)) ∈ lw_tbl := lw_at lw_m4 157 rfl
theorem q948 : (Jvm.Cond.instanceMethod ({ cls := "BreakSetter", name := "leastSlot", desc := "(IILBreakSetter$Trial;)I" } : Jvm.MethodName)) ∈ lw_all := lw_g (lw_at lw_m4 158 rfl) rfl
theorem q949 : (Jvm.Cond.code ({ cls := "BreakSetter", name := "leastSlot", desc := "(IILBreakSetter$Trial;)I" } : Jvm.MethodName) prog_1_method_14_code (6 : Nat) (Option.some Jvm.ClassFile.FieldType.int)) ∈ lw_all := lw_g (lw_at lw_m4 159 rfl) rfl
theorem q951 : (Jvm.Cond.instanceMethod ({ cls := "BreakSetter", name := "better", desc := "()I" } : Jvm.MethodName)) ∈ lw_all := lw_g (lw_at lw_m4 161 rfl) rfl
theorem q952 : (Jvm.Cond.selects "BreakSetter" ({ cls := "BreakSetter", name := "better", desc := "()I" } : Jvm.MethodName) ({ cls := "BreakSetter", name := "better", desc := "()I" } : Jvm.MethodName)) ∈ lw_all := lw_g (lw_at lw_m4 162 rfl) rfl
theorem q953 : (Jvm.Cond.code ({ cls := "BreakSetter", name := "better", desc := "()I" } : Jvm.MethodName) prog_1_method_25_code (1 : Nat) (Option.some Jvm.ClassFile.FieldType.int)) ∈ lw_all := lw_g (lw_at lw_m4 163 rfl) rfl
theorem q954 : (Jvm.Cond.methodLink "BreakSetter" (198 : Nat) ({ cls := "BreakSetter", name := "betterNow", desc := "()I" } : Jvm.MethodName)) ∈ lw_all := lw_g (lw_at lw_m4 164 rfl) rfl
theorem q955 : (Jvm.Cond.privateMethod ({ cls := "BreakSetter", name := "betterNow", desc := "()I" } : Jvm.MethodName)) ∈ lw_tbl := lw_at lw_m4 165 rfl
theorem q956 : (Jvm.Cond.instanceMethod ({ cls := "BreakSetter", name := "betterNow", desc := "()I" } : Jvm.MethodName)) ∈ lw_all := lw_g (lw_at lw_m4 166 rfl) rfl
theorem q957 : (Jvm.Cond.codeWith ({ cls := "BreakSetter", name := "betterNow", desc := "()I" } : Jvm.MethodName) prog_1_method_24_code (8 : Nat) (Option.some Jvm.ClassFile.FieldType.int) [((53 : Nat), (90 : Nat), (117 : Nat), (184 : Nat)), ((98 : Nat), (109 : Nat), (117 : Nat), (184 : Nat)), ((119 : Nat), (124 : Nat), (127 : Nat), (184 : Nat))]) ∈ lw_all := lw_g (lw_at lw_m4 167 rfl) rfl
theorem q958 : (Jvm.Cond.constant "BreakSetter" (197 : Nat) (1000000 : Int32)) ∈ lw_all := lw_g (lw_at lw_m4 168 rfl) rfl
theorem q960 : (Jvm.Cond.instanceMethod ({ cls := "BreakSetter", name := "least", desc := "(I)I" } : Jvm.MethodName)) ∈ lw_all := lw_g (lw_at lw_m4 170 rfl) rfl
theorem q961 : (Jvm.Cond.selects "BreakSetter" ({ cls := "BreakSetter", name := "least", desc := "(I)I" } : Jvm.MethodName) ({ cls := "BreakSetter", name := "least", desc := "(I)I" } : Jvm.MethodName)) ∈ lw_all := lw_g (lw_at lw_m4 171 rfl) rfl
theorem q962 : (Jvm.Cond.code ({ cls := "BreakSetter", name := "least", desc := "(I)I" } : Jvm.MethodName) prog_1_method_28_code (5 : Nat) (Option.some Jvm.ClassFile.FieldType.int)) ∈ lw_all := lw_g (lw_at lw_m4 172 rfl) rfl
theorem q963 : (Jvm.Cond.methodLink "BreakSetter" (212 : Nat) ({ cls := "java/util/Arrays", name := "fill", desc := "([ZZ)V" } : Jvm.MethodName)) ∈ lw_all := lw_g (lw_at lw_m4 173 rfl) rfl
theorem q966 : (Jvm.Cond.methodLink "BreakSetter" (208 : Nat) ({ cls := "BreakSetter", name := "finds", desc := "(II)Z" } : Jvm.MethodName)) ∈ lw_all := lw_g (lw_at lw_m4 176 rfl) rfl
theorem q967 : (Jvm.Cond.privateMethod ({ cls := "BreakSetter", name := "finds", desc := "(II)Z" } : Jvm.MethodName)) ∈ lw_tbl := lw_at lw_m4 177 rfl
theorem q968 : (Jvm.Cond.instanceMethod ({ cls := "BreakSetter", name := "finds", desc := "(II)Z" } : Jvm.MethodName)) ∈ lw_all := lw_g (lw_at lw_m4 178 rfl) rfl
theorem q969 : (Jvm.Cond.code ({ cls := "BreakSetter", name := "finds", desc := "(II)Z" } : Jvm.MethodName) prog_1_method_27_code (6 : Nat) (Option.some Jvm.ClassFile.FieldType.boolean)) ∈ lw_all := lw_g (lw_at lw_m4 179 rfl) rfl
theorem q970 : (Jvm.Cond.methodLink "BreakSetter" (204 : Nat) ({ cls := "BreakSetter", name := "room", desc := "(LBreakSetter$Plan;I)I" } : Jvm.MethodName)) ∈ lw_all := lw_g (lw_at lw_m4 180 rfl) rfl
theorem q971 : (Jvm.Cond.static ({ cls := "BreakSetter", name := "room", desc := "(LBreakSetter$Plan;I)I" } : Jvm.MethodName)) ∈ lw_all := lw_g (lw_at lw_m4 181 rfl) rfl
theorem q972 : (Jvm.Cond.code ({ cls := "BreakSetter", name := "room", desc := "(LBreakSetter$Plan;I)I" } : Jvm.MethodName) prog_1_method_26_code (2 : Nat) (Option.some Jvm.ClassFile.FieldType.int)) ∈ lw_all := lw_g (lw_at lw_m4 182 rfl) rfl
theorem q973 : (Jvm.Cond.methodLink "BreakSetter" (201 : Nat) ({ cls := "java/lang/Math", name := "min", desc := "(II)I" } : Jvm.MethodName)) ∈ lw_all := lw_g (lw_at lw_m4 183 rfl) rfl
theorem q975 : (Jvm.Cond.instanceMethod ({ cls := "BreakSetter", name := "relief", desc := "(II)I" } : Jvm.MethodName)) ∈ lw_all := lw_g (lw_at lw_m4 185 rfl) rfl
theorem q976 : (Jvm.Cond.selects "BreakSetter" ({ cls := "BreakSetter", name := "relief", desc := "(II)I" } : Jvm.MethodName) ({ cls := "BreakSetter", name := "relief", desc := "(II)I" } : Jvm.MethodName)) ∈ lw_all := lw_g (lw_at lw_m4 186 rfl) rfl
theorem q977 : (Jvm.Cond.code ({ cls := "BreakSetter", name := "relief", desc := "(II)I" } : Jvm.MethodName) prog_1_method_33_code (6 : Nat) (Option.some Jvm.ClassFile.FieldType.int)) ∈ lw_all := lw_g (lw_at lw_m4 187 rfl) rfl
theorem q978 : (Jvm.Cond.methodLink "BreakSetter" (221 : Nat) ({ cls := "BreakSetter", name := "laysHelps", desc := "()V" } : Jvm.MethodName)) ∈ lw_all := lw_g (lw_at lw_m4 188 rfl) rfl
theorem q979 : (Jvm.Cond.privateMethod ({ cls := "BreakSetter", name := "laysHelps", desc := "()V" } : Jvm.MethodName)) ∈ lw_tbl := lw_at lw_m4 189 rfl
theorem q980 : (Jvm.Cond.instanceMethod ({ cls := "BreakSetter", name := "laysHelps", desc := "()V" } : Jvm.MethodName)) ∈ lw_all := lw_g (lw_at lw_m4 190 rfl) rfl
theorem q981 : (Jvm.Cond.code ({ cls := "BreakSetter", name := "laysHelps", desc := "()V" } : Jvm.MethodName) prog_1_method_32_code (5 : Nat) (Option.none : Option Jvm.ClassFile.FieldType)) ∈ lw_all := lw_g (lw_at lw_m4 191 rfl) rfl
theorem q982 : (Jvm.Cond.methodLink "BreakSetter" (218 : Nat) ({ cls := "BreakSetter", name := "byStaying", desc := "(II)I" } : Jvm.MethodName)) ∈ lw_all := lw_g (lw_at lw_m4 192 rfl) rfl
theorem q983 : (Jvm.Cond.privateMethod ({ cls := "BreakSetter", name := "byStaying", desc := "(II)I" } : Jvm.MethodName)) ∈ lw_tbl := lw_at lw_m4 193 rfl
theorem q984 : (Jvm.Cond.instanceMethod ({ cls := "BreakSetter", name := "byStaying", desc := "(II)I" } : Jvm.MethodName)) ∈ lw_all := lw_g (lw_at lw_m4 194 rfl) rfl
theorem q985 : (Jvm.Cond.code ({ cls := "BreakSetter", name := "byStaying", desc := "(II)I" } : Jvm.MethodName) prog_1_method_30_code (4 : Nat) (Option.some Jvm.ClassFile.FieldType.int)) ∈ lw_all := lw_g (lw_at lw_m4 195 rfl) rfl
theorem q986 : (Jvm.Cond.methodLink "BreakSetter" (215 : Nat) ({ cls := "BreakSetter", name := "helpsFrom", desc := "(II)I" } : Jvm.MethodName)) ∈ lw_all := lw_g (lw_at lw_m4 196 rfl) rfl
theorem q987 : (Jvm.Cond.privateMethod ({ cls := "BreakSetter", name := "helpsFrom", desc := "(II)I" } : Jvm.MethodName)) ∈ lw_tbl := lw_at lw_m4 197 rfl
theorem q988 : (Jvm.Cond.instanceMethod ({ cls := "BreakSetter", name := "helpsFrom", desc := "(II)I" } : Jvm.MethodName)) ∈ lw_all := lw_g (lw_at lw_m4 198 rfl) rfl
theorem q989 : (Jvm.Cond.code ({ cls := "BreakSetter", name := "helpsFrom", desc := "(II)I" } : Jvm.MethodName) prog_1_method_29_code (3 : Nat) (Option.some Jvm.ClassFile.FieldType.int)) ∈ lw_all := lw_g (lw_at lw_m4 199 rfl) rfl
theorem q990 : (Jvm.Cond.methodLink "BreakSetter" (224 : Nat) ({ cls := "BreakSetter", name := "stays", desc := "(II)Z" } : Jvm.MethodName)) ∈ lw_all := lw_g (lw_at lw_m4 200 rfl) rfl
theorem q991 : (Jvm.Cond.privateMethod ({ cls := "BreakSetter", name := "stays", desc := "(II)Z" } : Jvm.MethodName)) ∈ lw_tbl := lw_at lw_m4 201 rfl
theorem q992 : (Jvm.Cond.instanceMethod ({ cls := "BreakSetter", name := "stays", desc := "(II)Z" } : Jvm.MethodName)) ∈ lw_all := lw_g (lw_at lw_m4 202 rfl) rfl
theorem q993 : (Jvm.Cond.code ({ cls := "BreakSetter", name := "stays", desc := "(II)Z" } : Jvm.MethodName) prog_1_method_31_code (3 : Nat) (Option.some Jvm.ClassFile.FieldType.boolean)) ∈ lw_all := lw_g (lw_at lw_m4 203 rfl) rfl
theorem q995 : (Jvm.Cond.instanceMethod ({ cls := "BreakSetter", name := "worst", desc := "()I" } : Jvm.MethodName)) ∈ lw_all := lw_g (lw_at lw_m4 205 rfl) rfl
theorem q996 : (Jvm.Cond.selects "BreakSetter" ({ cls := "BreakSetter", name := "worst", desc := "()I" } : Jvm.MethodName) ({ cls := "BreakSetter", name := "worst", desc := "()I" } : Jvm.MethodName)) ∈ lw_all := lw_g (lw_at lw_m4 206 rfl) rfl
theorem q997 : (Jvm.Cond.code ({ cls := "BreakSetter", name := "worst", desc := "()I" } : Jvm.MethodName) prog_1_method_34_code (6 : Nat) (Option.some Jvm.ClassFile.FieldType.int)) ∈ lw_all := lw_g (lw_at lw_m4 207 rfl) rfl
theorem q999 : (Jvm.Cond.instanceMethod ({ cls := "BreakSetter", name := "undo", desc := "()I" } : Jvm.MethodName)) ∈ lw_all := lw_g (lw_at lw_m4 209 rfl) rfl
theorem q1000 : (Jvm.Cond.selects "BreakSetter" ({ cls := "BreakSetter", name := "undo", desc := "()I" } : Jvm.MethodName) ({ cls := "BreakSetter", name := "undo", desc := "()I" } : Jvm.MethodName)) ∈ lw_all := lw_g (lw_at lw_m4 210 rfl) rfl
theorem q1001 : (Jvm.Cond.code ({ cls := "BreakSetter", name := "undo", desc := "()I" } : Jvm.MethodName) prog_1_method_36_code (1 : Nat) (Option.some Jvm.ClassFile.FieldType.int)) ∈ lw_all := lw_g (lw_at lw_m4 211 rfl) rfl
theorem q1003 : (Jvm.Cond.instanceMethod ({ cls := "BreakSetter", name := "place", desc := "(II)I" } : Jvm.MethodName)) ∈ lw_all := lw_g (lw_at lw_m4 213 rfl) rfl
theorem q1004 : (Jvm.Cond.selects "BreakSetter" ({ cls := "BreakSetter", name := "place", desc := "(II)I" } : Jvm.MethodName) ({ cls := "BreakSetter", name := "place", desc := "(II)I" } : Jvm.MethodName)) ∈ lw_all := lw_g (lw_at lw_m4 214 rfl) rfl
theorem q1005 : (Jvm.Cond.code ({ cls := "BreakSetter", name := "place", desc := "(II)I" } : Jvm.MethodName) prog_1_method_37_code (4 : Nat) (Option.some Jvm.ClassFile.FieldType.int)) ∈ lw_all := lw_g (lw_at lw_m4 215 rfl) rfl
theorem q1006 : (Jvm.Cond.methodLink "BreakSetter" (231 : Nat) ({ cls := "BreakSetter", name := "remembers", desc := "()V" } : Jvm.MethodName)) ∈ lw_all := lw_g (lw_at lw_m4 216 rfl) rfl
theorem q1007 : (Jvm.Cond.privateMethod ({ cls := "BreakSetter", name := "remembers", desc := "()V" } : Jvm.MethodName)) ∈ lw_tbl := lw_at lw_m4 217 rfl
theorem q1008 : (Jvm.Cond.instanceMethod ({ cls := "BreakSetter", name := "remembers", desc := "()V" } : Jvm.MethodName)) ∈ lw_all := lw_g (lw_at lw_m4 218 rfl) rfl
theorem q1009 : (Jvm.Cond.code ({ cls := "BreakSetter", name := "remembers", desc := "()V" } : Jvm.MethodName) prog_1_method_35_code (1 : Nat) (Option.none : Option Jvm.ClassFile.FieldType)) ∈ lw_all := lw_g (lw_at lw_m4 219 rfl) rfl
theorem q1010 : (Jvm.Cond.methodLink "BreakSetter" (227 : Nat) ({ cls := "[I", name := "clone", desc := "()Ljava/lang/Object;" } : Jvm.MethodName)) ∈ lw_all := lw_g (lw_at lw_m4 220 rfl) rfl
theorem q1015 : (Jvm.Cond.instanceMethod ({ cls := "BreakSetter", name := "take", desc := "(I)I" } : Jvm.MethodName)) ∈ lw_all := lw_g (lw_at lw_m4 225 rfl) rfl
theorem q1016 : (Jvm.Cond.selects "BreakSetter" ({ cls := "BreakSetter", name := "take", desc := "(I)I" } : Jvm.MethodName) ({ cls := "BreakSetter", name := "take", desc := "(I)I" } : Jvm.MethodName)) ∈ lw_all := lw_g (lw_at lw_m4 226 rfl) rfl
theorem q1017 : (Jvm.Cond.code ({ cls := "BreakSetter", name := "take", desc := "(I)I" } : Jvm.MethodName) prog_1_method_38_code (3 : Nat) (Option.some Jvm.ClassFile.FieldType.int)) ∈ lw_all := lw_g (lw_at lw_m4 227 rfl) rfl
theorem q1019 : (Jvm.Cond.instanceMethod ({ cls := "BreakSetter", name := "fill", desc := "()I" } : Jvm.MethodName)) ∈ lw_all := lw_g (lw_at lw_m4 229 rfl) rfl
theorem q1020 : (Jvm.Cond.selects "BreakSetter" ({ cls := "BreakSetter", name := "fill", desc := "()I" } : Jvm.MethodName) ({ cls := "BreakSetter", name := "fill", desc := "()I" } : Jvm.MethodName)) ∈ lw_all := lw_g (lw_at lw_m4 230 rfl) rfl
theorem q1021 : (Jvm.Cond.code ({ cls := "BreakSetter", name := "fill", desc := "()I" } : Jvm.MethodName) prog_1_method_39_code (3 : Nat) (Option.some Jvm.ClassFile.FieldType.int)) ∈ lw_all := lw_g (lw_at lw_m4 231 rfl) rfl
theorem q1023 : (Jvm.Cond.instanceMethod ({ cls := "BreakSetter", name := "settle", desc := "()I" } : Jvm.MethodName)) ∈ lw_all := lw_g (lw_at lw_m4 233 rfl) rfl
theorem q1024 : (Jvm.Cond.selects "BreakSetter" ({ cls := "BreakSetter", name := "settle", desc := "()I" } : Jvm.MethodName) ({ cls := "BreakSetter", name := "settle", desc := "()I" } : Jvm.MethodName)) ∈ lw_all := lw_g (lw_at lw_m4 234 rfl) rfl
theorem q1025 : (Jvm.Cond.code ({ cls := "BreakSetter", name := "settle", desc := "()I" } : Jvm.MethodName) prog_1_method_40_code (3 : Nat) (Option.some Jvm.ClassFile.FieldType.int)) ∈ lw_all := lw_g (lw_at lw_m4 235 rfl) rfl
theorem q1027 : (Jvm.Cond.instanceMethod ({ cls := "BreakSetter", name := "text", desc := "()I" } : Jvm.MethodName)) ∈ lw_all := lw_g (lw_at lw_m4 237 rfl) rfl
theorem q1028 : (Jvm.Cond.selects "BreakSetter" ({ cls := "BreakSetter", name := "text", desc := "()I" } : Jvm.MethodName) ({ cls := "BreakSetter", name := "text", desc := "()I" } : Jvm.MethodName)) ∈ lw_all := lw_g (lw_at lw_m4 238 rfl) rfl
theorem q1029 : (Jvm.Cond.codeWith ({ cls := "BreakSetter", name := "text", desc := "()I" } : Jvm.MethodName) prog_1_method_41_code (3 : Nat) (Option.some Jvm.ClassFile.FieldType.int) [((27 : Nat), (51 : Nat), (52 : Nat), (252 : Nat))]) ∈ lw_all := lw_g (lw_at lw_m4 239 rfl) rfl
theorem q1030 : (Jvm.Cond.classLink "BreakSetter" (252 : Nat) "BreakSetter$Fault") ∈ lw_all := lw_g (lw_at lw_m5 0 rfl) rfl
theorem q1031 : (Jvm.Cond.classLink "BreakSetter" (240 : Nat) "BreakSetter$Reader") ∈ lw_all := lw_g (lw_at lw_m5 1 rfl) rfl
theorem q1033 : (Jvm.Cond.methodLinkNest "BreakSetter" (242 : Nat) ({ cls := "BreakSetter$Reader", name := "<init>", desc := "(LBreakSetter;)V" } : Jvm.MethodName) "BreakSetter") ∈ lw_tbl := lw_at lw_m5 3 rfl
theorem q1044 : (Jvm.Cond.fieldLinkNest "BreakSetter" (249 : Nat) "BreakSetter$Reader" "lines" "I" "BreakSetter") ∈ lw_tbl := lw_at lw_m5 14 rfl
theorem q1062 : (Jvm.Cond.methodLink "BreakSetter" (245 : Nat) ({ cls := "BreakSetter$Reader", name := "whole", desc := "()LBreakSetter$Plan;" } : Jvm.MethodName)) ∈ lw_all := lw_g (lw_at lw_m5 32 rfl) rfl
theorem q1144 : (Jvm.Cond.fieldLinkNest "BreakSetter" (254 : Nat) "BreakSetter$Fault" "kind" "I" "BreakSetter") ∈ lw_tbl := lw_at lw_m5 114 rfl
theorem q1146 : (Jvm.Cond.fieldLinkNest "BreakSetter" (257 : Nat) "BreakSetter$Fault" "place" "I" "BreakSetter") ∈ lw_tbl := lw_at lw_m5 116 rfl
theorem q1179 : (Jvm.Cond.fieldLinkNest "BreakSetter" (110 : Nat) "BreakSetter$Shift" "post" "I" "BreakSetter") ∈ lw_tbl := lw_at lw_m5 149 rfl
theorem q1183 : (Jvm.Cond.fieldLinkNest "BreakSetter" (155 : Nat) "BreakSetter$Shift" "from" "I" "BreakSetter") ∈ lw_tbl := lw_at lw_m5 153 rfl
theorem q1187 : (Jvm.Cond.fieldLinkNest "BreakSetter" (158 : Nat) "BreakSetter$Shift" "to" "I" "BreakSetter") ∈ lw_tbl := lw_at lw_m5 157 rfl
theorem q1190 : (Jvm.Cond.fieldLinkNest "BreakSetter" (161 : Nat) "BreakSetter$Shift" "pauses" "I" "BreakSetter") ∈ lw_tbl := lw_at lw_m5 160 rfl
theorem q1193 : (Jvm.Cond.fieldLinkNest "BreakSetter" (162 : Nat) "BreakSetter$Shift" "first" "I" "BreakSetter") ∈ lw_tbl := lw_at lw_m5 163 rfl
theorem q1221 : (Jvm.Cond.fieldLinkNest "BreakSetter" (106 : Nat) "BreakSetter$Pause" "shift" "I" "BreakSetter") ∈ lw_tbl := lw_at lw_m5 191 rfl
theorem q1223 : (Jvm.Cond.fieldLinkNest "BreakSetter" (115 : Nat) "BreakSetter$Pause" "many" "I" "BreakSetter") ∈ lw_tbl := lw_at lw_m5 193 rfl
theorem q1225 : (Jvm.Cond.fieldLinkNest "BreakSetter" (118 : Nat) "BreakSetter$Pause" "early" "I" "BreakSetter") ∈ lw_tbl := lw_at lw_m5 195 rfl
theorem q1227 : (Jvm.Cond.fieldLinkNest "BreakSetter" (121 : Nat) "BreakSetter$Pause" "late" "I" "BreakSetter") ∈ lw_tbl := lw_at lw_m5 197 rfl
theorem q1243 : (Jvm.Cond.instanceMethod ({ cls := "BreakSetter", name := "fault", desc := "()I" } : Jvm.MethodName)) ∈ lw_all := lw_g (lw_at lw_m5 213 rfl) rfl
theorem q1244 : (Jvm.Cond.selects "BreakSetter" ({ cls := "BreakSetter", name := "fault", desc := "()I" } : Jvm.MethodName) ({ cls := "BreakSetter", name := "fault", desc := "()I" } : Jvm.MethodName)) ∈ lw_all := lw_g (lw_at lw_m5 214 rfl) rfl
theorem q1245 : (Jvm.Cond.code ({ cls := "BreakSetter", name := "fault", desc := "()I" } : Jvm.MethodName) prog_1_method_42_code (1 : Nat) (Option.some Jvm.ClassFile.FieldType.int)) ∈ lw_all := lw_g (lw_at lw_m5 215 rfl) rfl
theorem q1251 : (Jvm.Cond.instanceMethod ({ cls := "BreakSetter", name := "shift", desc := "(II)I" } : Jvm.MethodName)) ∈ lw_all := lw_g (lw_at lw_m5 221 rfl) rfl
theorem q1252 : (Jvm.Cond.selects "BreakSetter" ({ cls := "BreakSetter", name := "shift", desc := "(II)I" } : Jvm.MethodName) ({ cls := "BreakSetter", name := "shift", desc := "(II)I" } : Jvm.MethodName)) ∈ lw_all := lw_g (lw_at lw_m5 222 rfl) rfl
theorem q1253 : (Jvm.Cond.code ({ cls := "BreakSetter", name := "shift", desc := "(II)I" } : Jvm.MethodName) prog_1_method_17_code (4 : Nat) (Option.some Jvm.ClassFile.FieldType.int)) ∈ lw_all := lw_g (lw_at lw_m5 223 rfl) rfl
theorem q1254 : (Jvm.Cond.classLink "BreakSetter" (152 : Nat) "java/util/NoSuchElementException") ∈ lw_all := lw_g (lw_at lw_m5 224 rfl) rfl
theorem q1263 : (Jvm.Cond.methodLink "BreakSetter" (154 : Nat) ({ cls := "java/util/NoSuchElementException", name := "<init>", desc := "()V" } : Jvm.MethodName)) ∈ lw_all := lw_g (lw_at lw_m5 233 rfl) rfl
theorem q1273 : (Jvm.Cond.instanceMethod ({ cls := "BreakSetter", name := "pause", desc := "(II)I" } : Jvm.MethodName)) ∈ lw_all := lw_g (lw_at lw_m6 3 rfl) rfl
theorem q1274 : (Jvm.Cond.selects "BreakSetter" ({ cls := "BreakSetter", name := "pause", desc := "(II)I" } : Jvm.MethodName) ({ cls := "BreakSetter", name := "pause", desc := "(II)I" } : Jvm.MethodName)) ∈ lw_all := lw_g (lw_at lw_m6 4 rfl) rfl
theorem q1275 : (Jvm.Cond.code ({ cls := "BreakSetter", name := "pause", desc := "(II)I" } : Jvm.MethodName) prog_1_method_18_code (4 : Nat) (Option.some Jvm.ClassFile.FieldType.int)) ∈ lw_all := lw_g (lw_at lw_m6 5 rfl) rfl
theorem q1639 : (Jvm.Cond.castable "BreakSetter" "java/lang/Object") ∈ lw_tbl := lw_at lw_m7 129 rfl
theorem in_X1 : ∀ w ∈ wsX10, w ∈ lw_all := lw_in wsX10 [196, 198, 200, 202, 204, 206, 208, 210, 212, 214, 216, 218, 220] (by decide +kernel) (by decide +kernel)

