/-! BreakSetterModel -/
set_option maxRecDepth 100000
def RX3 : String := "BreakSetterModel"
def TX3 : u_T := fun k => match k with
  | 0 => ("BreakSetterModel", "thrown", "I", false)
  | 1 => ("BreakSetterModel", "tape", "[I", true)
  | 2 => ("BreakSetterModel", "taped", "I", false)
  | 3 => ("BreakSetterModel", "size", "I", false)
  | 4 => ("BreakSetterModel", "to", "I", false)
  | 5 => ("BreakSetterModel", "from", "I", false)
  | 6 => ("BreakSetterModel", "sort", "I", false)
  | 7 => ("BreakSetterModel", "number", "I", false)
  | 8 => ("BreakSetterModel", "fault", "I", false)
  | 9 => ("BreakSetterModel", "where", "I", false)
  | 10 => ("BreakSetterModel", "word", "J", false)
  | 11 => ("BreakSetterModel", "now", "[I", true)
  | 12 => ("BreakSetterModel", "read", "[I", true)
  | 13 => ("BreakSetterModel", "snaps", "[I", true)
  | 14 => ("BreakSetterModel", "snapMany", "I", false)
  | 15 => ("BreakSetterModel", "got", "I", false)
  | 16 => ("BreakSetterModel", "needs", "I", false)
  | 17 => ("BreakSetterModel", "lines", "I", false)
  | 18 => ("BreakSetterModel", "spare", "[I", true)
  | 19 => ("BreakSetterModel", "taken", "[I", true)
  | 20 => ("BreakSetterModel", "slotOf", "[I", true)
  | 21 => ("BreakSetterModel", "seen", "[Z", true)
  | _ => ("BreakSetterModel", "helps", "[I", true)
def tyX3 : Nat → FieldType := fun k => match k with
  | 0 => .int
  | 1 => .array .int
  | 2 => .int
  | 3 => .int
  | 4 => .int
  | 5 => .int
  | 6 => .int
  | 7 => .int
  | 8 => .int
  | 9 => .int
  | 10 => .long
  | 11 => .array .int
  | 12 => .array .int
  | 13 => .array .int
  | 14 => .int
  | 15 => .int
  | 16 => .int
  | 17 => .int
  | 18 => .array .int
  | 19 => .array .int
  | 20 => .array .int
  | 21 => .array .boolean
  | _ => .array .int
abbrev wsX30 : List Cond := u_ws RX3 TX3 23
set_option maxRecDepth 100000 in
theorem nmX3 : ∀ a, a < 23 → ∀ b, b < 23 → a ≠ b → (TX3 a).2.1 ≠ (TX3 b).2.1 := by decide +kernel
set_option maxRecDepth 100000 in
theorem tyX3_ok : ∀ k, k < 23 → parseFieldDescriptor (TX3 k).2.2.1 = some (tyX3 k) := by decide +kernel
abbrev cX3_thrown : ByteArray := prog_9_method_1_code
def yX3_thrown : MethodName := ⟨RX3, "thrown", "()I"⟩
theorem dX3_thrown_0 : decode cX3_thrown 0 = .ok (.aload_n 0, 1) := by decide +kernel
theorem dX3_thrown_1 : decode cX3_thrown 1 = .ok (.getfield 1, 3) := by decide +kernel
theorem dX3_thrown_4 : decode cX3_thrown 4 = .ok (.ireturn, 1) := by decide +kernel
abbrev cX3_feed : ByteArray := prog_9_method_5_code
def yX3_feed : MethodName := ⟨RX3, "feed", "(IIIII)I"⟩
def dkwX3_feed_2 : List UInt8 := [182, 0, 14, 42, 180, 0, 11, 172]
abbrev dktX3_feed_2 : List UInt8 := dkwX3_feed_2 ++ []
def dkwX3_feed_1 : List UInt8 := [182, 0, 14, 42, 28, 182, 0, 14, 42, 29, 182, 0, 14, 42, 21, 4, 182, 0, 14, 42, 21, 5]
abbrev dktX3_feed_1 : List UInt8 := dkwX3_feed_1 ++ dktX3_feed_2
def dkwX3_feed_0 : List UInt8 := [42, 3, 181, 0, 1, 42, 180, 0, 11, 16, 20, 96, 17, 2, 128, 164, 0, 5, 2, 172, 42, 27]
abbrev dktX3_feed_0 : List UInt8 := dkwX3_feed_0 ++ dktX3_feed_1
theorem dksX3_feed_0 : cX3_feed.data.toList.drop 0 = dktX3_feed_0 := by decide +kernel
theorem dksX3_feed_1 : cX3_feed.data.toList.drop 22 = dktX3_feed_1 := dk_seg dksX3_feed_0 22 rfl rfl
theorem dksX3_feed_2 : cX3_feed.data.toList.drop 44 = dktX3_feed_2 := dk_seg dksX3_feed_1 22 rfl rfl
theorem dX3_feed_0 : decode cX3_feed 0 = .ok (.aload_n 0, 1) := dk_42 (dk_at dksX3_feed_0 0 rfl rfl)
theorem dX3_feed_1 : decode cX3_feed 1 = .ok (.iconst 0, 1) := dk_3 (dk_at dksX3_feed_0 1 rfl rfl)
theorem dX3_feed_2 : decode cX3_feed 2 = .ok (.putfield 1, 3) := dk_181 0 1 (dk_at dksX3_feed_0 2 rfl rfl)
theorem dX3_feed_5 : decode cX3_feed 5 = .ok (.aload_n 0, 1) := dk_42 (dk_at dksX3_feed_0 5 rfl rfl)
theorem dX3_feed_6 : decode cX3_feed 6 = .ok (.getfield 11, 3) := dk_180 0 11 (dk_at dksX3_feed_0 6 rfl rfl)
theorem dX3_feed_9 : decode cX3_feed 9 = .ok (.bipush 20, 2) := dk_16 20 (dk_at dksX3_feed_0 9 rfl rfl)
theorem dX3_feed_11 : decode cX3_feed 11 = .ok (.iadd, 1) := dk_96 (dk_at dksX3_feed_0 11 rfl rfl)
theorem dX3_feed_12 : decode cX3_feed 12 = .ok (.sipush 640, 3) := dk_17 2 128 (dk_at dksX3_feed_0 12 rfl rfl)
theorem dX3_feed_15 : decode cX3_feed 15 = .ok (.if_icmp .le 5, 3) := dk_164 0 5 (dk_at dksX3_feed_0 15 rfl rfl)
theorem dX3_feed_18 : decode cX3_feed 18 = .ok (.iconst (-1), 1) := dk_2 (dk_at dksX3_feed_0 18 rfl rfl)
theorem dX3_feed_19 : decode cX3_feed 19 = .ok (.ireturn, 1) := dk_172 (dk_at dksX3_feed_0 19 rfl rfl)
theorem dX3_feed_20 : decode cX3_feed 20 = .ok (.aload_n 0, 1) := dk_42 (dk_at dksX3_feed_0 20 rfl rfl)
theorem dX3_feed_21 : decode cX3_feed 21 = .ok (.iload_n 1, 1) := dk_27 (dk_at dksX3_feed_0 21 rfl rfl)
theorem dX3_feed_22 : decode cX3_feed 22 = .ok (.invokevirtual 14, 3) := dk_182 0 14 (dk_at dksX3_feed_1 0 rfl rfl)
theorem dX3_feed_25 : decode cX3_feed 25 = .ok (.aload_n 0, 1) := dk_42 (dk_at dksX3_feed_1 3 rfl rfl)
theorem dX3_feed_26 : decode cX3_feed 26 = .ok (.iload_n 2, 1) := dk_28 (dk_at dksX3_feed_1 4 rfl rfl)
theorem dX3_feed_27 : decode cX3_feed 27 = .ok (.invokevirtual 14, 3) := dk_182 0 14 (dk_at dksX3_feed_1 5 rfl rfl)
theorem dX3_feed_30 : decode cX3_feed 30 = .ok (.aload_n 0, 1) := dk_42 (dk_at dksX3_feed_1 8 rfl rfl)
theorem dX3_feed_31 : decode cX3_feed 31 = .ok (.iload_n 3, 1) := dk_29 (dk_at dksX3_feed_1 9 rfl rfl)
theorem dX3_feed_32 : decode cX3_feed 32 = .ok (.invokevirtual 14, 3) := dk_182 0 14 (dk_at dksX3_feed_1 10 rfl rfl)
theorem dX3_feed_35 : decode cX3_feed 35 = .ok (.aload_n 0, 1) := dk_42 (dk_at dksX3_feed_1 13 rfl rfl)
theorem dX3_feed_36 : decode cX3_feed 36 = .ok (.iload 4, 2) := dk_21 4 (dk_at dksX3_feed_1 14 rfl rfl)
theorem dX3_feed_38 : decode cX3_feed 38 = .ok (.invokevirtual 14, 3) := dk_182 0 14 (dk_at dksX3_feed_1 16 rfl rfl)
theorem dX3_feed_41 : decode cX3_feed 41 = .ok (.aload_n 0, 1) := dk_42 (dk_at dksX3_feed_1 19 rfl rfl)
theorem dX3_feed_42 : decode cX3_feed 42 = .ok (.iload 5, 2) := dk_21 5 (dk_at dksX3_feed_1 20 rfl rfl)
theorem dX3_feed_44 : decode cX3_feed 44 = .ok (.invokevirtual 14, 3) := dk_182 0 14 (dk_at dksX3_feed_2 0 rfl rfl)
theorem dX3_feed_47 : decode cX3_feed 47 = .ok (.aload_n 0, 1) := dk_42 (dk_at dksX3_feed_2 3 rfl rfl)
theorem dX3_feed_48 : decode cX3_feed 48 = .ok (.getfield 11, 3) := dk_180 0 11 (dk_at dksX3_feed_2 4 rfl rfl)
theorem dX3_feed_51 : decode cX3_feed 51 = .ok (.ireturn, 1) := dk_172 (dk_at dksX3_feed_2 7 rfl rfl)
abbrev cX3_lays : ByteArray := prog_9_method_4_code
def yX3_lays : MethodName := ⟨RX3, "lays", "(I)V"⟩
def dkwX3_lays_1 : List UInt8 := [89, 180, 0, 11, 4, 96, 181, 0, 11, 132, 2, 248, 167, 255, 223, 177]
abbrev dktX3_lays_1 : List UInt8 := dkwX3_lays_1 ++ []
def dkwX3_lays_0 : List UInt8 := [16, 24, 61, 28, 155, 0, 35, 42, 180, 0, 7, 42, 180, 0, 11, 27, 28, 124, 17, 0, 255, 126, 79, 42]
abbrev dktX3_lays_0 : List UInt8 := dkwX3_lays_0 ++ dktX3_lays_1
theorem dksX3_lays_0 : cX3_lays.data.toList.drop 0 = dktX3_lays_0 := by decide +kernel
theorem dksX3_lays_1 : cX3_lays.data.toList.drop 24 = dktX3_lays_1 := dk_seg dksX3_lays_0 24 rfl rfl
theorem dX3_lays_0 : decode cX3_lays 0 = .ok (.bipush 24, 2) := dk_16 24 (dk_at dksX3_lays_0 0 rfl rfl)
theorem dX3_lays_2 : decode cX3_lays 2 = .ok (.istore_n 2, 1) := dk_61 (dk_at dksX3_lays_0 2 rfl rfl)
theorem dX3_lays_3 : decode cX3_lays 3 = .ok (.iload_n 2, 1) := dk_28 (dk_at dksX3_lays_0 3 rfl rfl)
theorem dX3_lays_4 : decode cX3_lays 4 = .ok (.ifCond .lt 35, 3) := dk_155 0 35 (dk_at dksX3_lays_0 4 rfl rfl)
theorem dX3_lays_7 : decode cX3_lays 7 = .ok (.aload_n 0, 1) := dk_42 (dk_at dksX3_lays_0 7 rfl rfl)
theorem dX3_lays_8 : decode cX3_lays 8 = .ok (.getfield 7, 3) := dk_180 0 7 (dk_at dksX3_lays_0 8 rfl rfl)
theorem dX3_lays_11 : decode cX3_lays 11 = .ok (.aload_n 0, 1) := dk_42 (dk_at dksX3_lays_0 11 rfl rfl)
theorem dX3_lays_12 : decode cX3_lays 12 = .ok (.getfield 11, 3) := dk_180 0 11 (dk_at dksX3_lays_0 12 rfl rfl)
theorem dX3_lays_15 : decode cX3_lays 15 = .ok (.iload_n 1, 1) := dk_27 (dk_at dksX3_lays_0 15 rfl rfl)
theorem dX3_lays_16 : decode cX3_lays 16 = .ok (.iload_n 2, 1) := dk_28 (dk_at dksX3_lays_0 16 rfl rfl)
theorem dX3_lays_17 : decode cX3_lays 17 = .ok (.iushr, 1) := dk_124 (dk_at dksX3_lays_0 17 rfl rfl)
theorem dX3_lays_18 : decode cX3_lays 18 = .ok (.sipush 255, 3) := dk_17 0 255 (dk_at dksX3_lays_0 18 rfl rfl)
theorem dX3_lays_21 : decode cX3_lays 21 = .ok (.iand, 1) := dk_126 (dk_at dksX3_lays_0 21 rfl rfl)
theorem dX3_lays_22 : decode cX3_lays 22 = .ok (.iastore, 1) := dk_79 (dk_at dksX3_lays_0 22 rfl rfl)
theorem dX3_lays_23 : decode cX3_lays 23 = .ok (.aload_n 0, 1) := dk_42 (dk_at dksX3_lays_0 23 rfl rfl)
theorem dX3_lays_24 : decode cX3_lays 24 = .ok (.dup, 1) := dk_89 (dk_at dksX3_lays_1 0 rfl rfl)
theorem dX3_lays_25 : decode cX3_lays 25 = .ok (.getfield 11, 3) := dk_180 0 11 (dk_at dksX3_lays_1 1 rfl rfl)
theorem dX3_lays_28 : decode cX3_lays 28 = .ok (.iconst 1, 1) := dk_4 (dk_at dksX3_lays_1 4 rfl rfl)
theorem dX3_lays_29 : decode cX3_lays 29 = .ok (.iadd, 1) := dk_96 (dk_at dksX3_lays_1 5 rfl rfl)
theorem dX3_lays_30 : decode cX3_lays 30 = .ok (.putfield 11, 3) := dk_181 0 11 (dk_at dksX3_lays_1 6 rfl rfl)
theorem dX3_lays_33 : decode cX3_lays 33 = .ok (.iinc 2 (-8), 3) := dk_132 2 248 (dk_at dksX3_lays_1 9 rfl rfl)
theorem dX3_lays_36 : decode cX3_lays 36 = .ok (.goto (-33), 3) := dk_167 255 223 (dk_at dksX3_lays_1 12 rfl rfl)
theorem dX3_lays_39 : decode cX3_lays 39 = .ok (.return_, 1) := dk_177 (dk_at dksX3_lays_1 15 rfl rfl)
abbrev cX3_end : ByteArray := prog_9_method_6_code
def yX3_end : MethodName := ⟨RX3, "end", "(I)Z"⟩
def dkwX3_end_1 : List UInt8 := [4, 172]
abbrev dktX3_end_1 : List UInt8 := dkwX3_end_1 ++ []
def dkwX3_end_0 : List UInt8 := [42, 3, 181, 0, 1, 27, 155, 0, 11, 27, 42, 180, 0, 11, 164, 0, 5, 3, 172, 42, 27, 181, 0, 11]
abbrev dktX3_end_0 : List UInt8 := dkwX3_end_0 ++ dktX3_end_1
theorem dksX3_end_0 : cX3_end.data.toList.drop 0 = dktX3_end_0 := by decide +kernel
theorem dksX3_end_1 : cX3_end.data.toList.drop 24 = dktX3_end_1 := dk_seg dksX3_end_0 24 rfl rfl
theorem dX3_end_0 : decode cX3_end 0 = .ok (.aload_n 0, 1) := dk_42 (dk_at dksX3_end_0 0 rfl rfl)
theorem dX3_end_1 : decode cX3_end 1 = .ok (.iconst 0, 1) := dk_3 (dk_at dksX3_end_0 1 rfl rfl)
theorem dX3_end_2 : decode cX3_end 2 = .ok (.putfield 1, 3) := dk_181 0 1 (dk_at dksX3_end_0 2 rfl rfl)
theorem dX3_end_5 : decode cX3_end 5 = .ok (.iload_n 1, 1) := dk_27 (dk_at dksX3_end_0 5 rfl rfl)
theorem dX3_end_6 : decode cX3_end 6 = .ok (.ifCond .lt 11, 3) := dk_155 0 11 (dk_at dksX3_end_0 6 rfl rfl)
theorem dX3_end_9 : decode cX3_end 9 = .ok (.iload_n 1, 1) := dk_27 (dk_at dksX3_end_0 9 rfl rfl)
theorem dX3_end_10 : decode cX3_end 10 = .ok (.aload_n 0, 1) := dk_42 (dk_at dksX3_end_0 10 rfl rfl)
theorem dX3_end_11 : decode cX3_end 11 = .ok (.getfield 11, 3) := dk_180 0 11 (dk_at dksX3_end_0 11 rfl rfl)
theorem dX3_end_14 : decode cX3_end 14 = .ok (.if_icmp .le 5, 3) := dk_164 0 5 (dk_at dksX3_end_0 14 rfl rfl)
theorem dX3_end_17 : decode cX3_end 17 = .ok (.iconst 0, 1) := dk_3 (dk_at dksX3_end_0 17 rfl rfl)
theorem dX3_end_18 : decode cX3_end 18 = .ok (.ireturn, 1) := dk_172 (dk_at dksX3_end_0 18 rfl rfl)
theorem dX3_end_19 : decode cX3_end 19 = .ok (.aload_n 0, 1) := dk_42 (dk_at dksX3_end_0 19 rfl rfl)
theorem dX3_end_20 : decode cX3_end 20 = .ok (.iload_n 1, 1) := dk_27 (dk_at dksX3_end_0 20 rfl rfl)
theorem dX3_end_21 : decode cX3_end 21 = .ok (.putfield 11, 3) := dk_181 0 11 (dk_at dksX3_end_0 21 rfl rfl)
theorem dX3_end_24 : decode cX3_end 24 = .ok (.iconst 1, 1) := dk_4 (dk_at dksX3_end_1 0 rfl rfl)
theorem dX3_end_25 : decode cX3_end 25 = .ok (.ireturn, 1) := dk_172 (dk_at dksX3_end_1 1 rfl rfl)
abbrev cX3_init : ByteArray := prog_9_method_16_code
def yX3_init : MethodName := ⟨RX3, "<init>", "()V"⟩
def dkwX3_init_4 : List UInt8 := [4, 79, 177]
abbrev dktX3_init_4 : List UInt8 := dkwX3_init_4 ++ []
def dkwX3_init_3 : List UInt8 := [181, 0, 92, 42, 17, 0, 147, 188, 10, 181, 0, 96, 42, 180, 0, 74, 3, 4, 79, 42, 180, 0, 74, 4]
abbrev dktX3_init_3 : List UInt8 := dkwX3_init_3 ++ dktX3_init_4
def dkwX3_init_2 : List UInt8 := [181, 0, 83, 42, 16, 48, 188, 10, 181, 0, 86, 42, 16, 8, 188, 10, 181, 0, 89, 42, 16, 48, 188, 4]
abbrev dktX3_init_2 : List UInt8 := dkwX3_init_2 ++ dktX3_init_3
def dkwX3_init_1 : List UInt8 := [17, 1, 52, 188, 10, 181, 0, 77, 42, 17, 12, 8, 188, 10, 181, 0, 80, 42, 16, 48, 188, 10]
abbrev dktX3_init_1 : List UInt8 := dkwX3_init_1 ++ dktX3_init_2
def dkwX3_init_0 : List UInt8 := [42, 183, 0, 68, 42, 17, 2, 128, 188, 10, 181, 0, 7, 42, 17, 1, 52, 188, 10, 181, 0, 74, 42]
abbrev dktX3_init_0 : List UInt8 := dkwX3_init_0 ++ dktX3_init_1
theorem dksX3_init_0 : cX3_init.data.toList.drop 0 = dktX3_init_0 := by decide +kernel
theorem dksX3_init_1 : cX3_init.data.toList.drop 23 = dktX3_init_1 := dk_seg dksX3_init_0 23 rfl rfl
theorem dksX3_init_2 : cX3_init.data.toList.drop 45 = dktX3_init_2 := dk_seg dksX3_init_1 22 rfl rfl
theorem dksX3_init_3 : cX3_init.data.toList.drop 69 = dktX3_init_3 := dk_seg dksX3_init_2 24 rfl rfl
theorem dksX3_init_4 : cX3_init.data.toList.drop 93 = dktX3_init_4 := dk_seg dksX3_init_3 24 rfl rfl
theorem dX3_init_0 : decode cX3_init 0 = .ok (.aload_n 0, 1) := dk_42 (dk_at dksX3_init_0 0 rfl rfl)
theorem dX3_init_1 : decode cX3_init 1 = .ok (.invokespecial 68, 3) := dk_183 0 68 (dk_at dksX3_init_0 1 rfl rfl)
theorem dX3_init_4 : decode cX3_init 4 = .ok (.aload_n 0, 1) := dk_42 (dk_at dksX3_init_0 4 rfl rfl)
theorem dX3_init_5 : decode cX3_init 5 = .ok (.sipush 640, 3) := dk_17 2 128 (dk_at dksX3_init_0 5 rfl rfl)
theorem dX3_init_8 : decode cX3_init 8 = .ok (.newarray .int, 2) := dk_188_10 (dk_at dksX3_init_0 8 rfl rfl)
theorem dX3_init_10 : decode cX3_init 10 = .ok (.putfield 7, 3) := dk_181 0 7 (dk_at dksX3_init_0 10 rfl rfl)
theorem dX3_init_13 : decode cX3_init 13 = .ok (.aload_n 0, 1) := dk_42 (dk_at dksX3_init_0 13 rfl rfl)
theorem dX3_init_14 : decode cX3_init 14 = .ok (.sipush 308, 3) := dk_17 1 52 (dk_at dksX3_init_0 14 rfl rfl)
theorem dX3_init_17 : decode cX3_init 17 = .ok (.newarray .int, 2) := dk_188_10 (dk_at dksX3_init_0 17 rfl rfl)
theorem dX3_init_19 : decode cX3_init 19 = .ok (.putfield 74, 3) := dk_181 0 74 (dk_at dksX3_init_0 19 rfl rfl)
theorem dX3_init_22 : decode cX3_init 22 = .ok (.aload_n 0, 1) := dk_42 (dk_at dksX3_init_0 22 rfl rfl)
theorem dX3_init_23 : decode cX3_init 23 = .ok (.sipush 308, 3) := dk_17 1 52 (dk_at dksX3_init_1 0 rfl rfl)
theorem dX3_init_26 : decode cX3_init 26 = .ok (.newarray .int, 2) := dk_188_10 (dk_at dksX3_init_1 3 rfl rfl)
theorem dX3_init_28 : decode cX3_init 28 = .ok (.putfield 77, 3) := dk_181 0 77 (dk_at dksX3_init_1 5 rfl rfl)
theorem dX3_init_31 : decode cX3_init 31 = .ok (.aload_n 0, 1) := dk_42 (dk_at dksX3_init_1 8 rfl rfl)
theorem dX3_init_32 : decode cX3_init 32 = .ok (.sipush 3080, 3) := dk_17 12 8 (dk_at dksX3_init_1 9 rfl rfl)
theorem dX3_init_35 : decode cX3_init 35 = .ok (.newarray .int, 2) := dk_188_10 (dk_at dksX3_init_1 12 rfl rfl)
theorem dX3_init_37 : decode cX3_init 37 = .ok (.putfield 80, 3) := dk_181 0 80 (dk_at dksX3_init_1 14 rfl rfl)
theorem dX3_init_40 : decode cX3_init 40 = .ok (.aload_n 0, 1) := dk_42 (dk_at dksX3_init_1 17 rfl rfl)
theorem dX3_init_41 : decode cX3_init 41 = .ok (.bipush 48, 2) := dk_16 48 (dk_at dksX3_init_1 18 rfl rfl)
theorem dX3_init_43 : decode cX3_init 43 = .ok (.newarray .int, 2) := dk_188_10 (dk_at dksX3_init_1 20 rfl rfl)
theorem dX3_init_45 : decode cX3_init 45 = .ok (.putfield 83, 3) := dk_181 0 83 (dk_at dksX3_init_2 0 rfl rfl)
theorem dX3_init_48 : decode cX3_init 48 = .ok (.aload_n 0, 1) := dk_42 (dk_at dksX3_init_2 3 rfl rfl)
theorem dX3_init_49 : decode cX3_init 49 = .ok (.bipush 48, 2) := dk_16 48 (dk_at dksX3_init_2 4 rfl rfl)
theorem dX3_init_51 : decode cX3_init 51 = .ok (.newarray .int, 2) := dk_188_10 (dk_at dksX3_init_2 6 rfl rfl)
theorem dX3_init_53 : decode cX3_init 53 = .ok (.putfield 86, 3) := dk_181 0 86 (dk_at dksX3_init_2 8 rfl rfl)
theorem dX3_init_56 : decode cX3_init 56 = .ok (.aload_n 0, 1) := dk_42 (dk_at dksX3_init_2 11 rfl rfl)
theorem dX3_init_57 : decode cX3_init 57 = .ok (.bipush 8, 2) := dk_16 8 (dk_at dksX3_init_2 12 rfl rfl)
theorem dX3_init_59 : decode cX3_init 59 = .ok (.newarray .int, 2) := dk_188_10 (dk_at dksX3_init_2 14 rfl rfl)
theorem dX3_init_61 : decode cX3_init 61 = .ok (.putfield 89, 3) := dk_181 0 89 (dk_at dksX3_init_2 16 rfl rfl)
theorem dX3_init_64 : decode cX3_init 64 = .ok (.aload_n 0, 1) := dk_42 (dk_at dksX3_init_2 19 rfl rfl)
theorem dX3_init_65 : decode cX3_init 65 = .ok (.bipush 48, 2) := dk_16 48 (dk_at dksX3_init_2 20 rfl rfl)
theorem dX3_init_67 : decode cX3_init 67 = .ok (.newarray .boolean, 2) := dk_188_4 (dk_at dksX3_init_2 22 rfl rfl)
theorem dX3_init_69 : decode cX3_init 69 = .ok (.putfield 92, 3) := dk_181 0 92 (dk_at dksX3_init_3 0 rfl rfl)
theorem dX3_init_72 : decode cX3_init 72 = .ok (.aload_n 0, 1) := dk_42 (dk_at dksX3_init_3 3 rfl rfl)
theorem dX3_init_73 : decode cX3_init 73 = .ok (.sipush 147, 3) := dk_17 0 147 (dk_at dksX3_init_3 4 rfl rfl)
theorem dX3_init_76 : decode cX3_init 76 = .ok (.newarray .int, 2) := dk_188_10 (dk_at dksX3_init_3 7 rfl rfl)
theorem dX3_init_78 : decode cX3_init 78 = .ok (.putfield 96, 3) := dk_181 0 96 (dk_at dksX3_init_3 9 rfl rfl)
theorem dX3_init_81 : decode cX3_init 81 = .ok (.aload_n 0, 1) := dk_42 (dk_at dksX3_init_3 12 rfl rfl)
theorem dX3_init_82 : decode cX3_init 82 = .ok (.getfield 74, 3) := dk_180 0 74 (dk_at dksX3_init_3 13 rfl rfl)
theorem dX3_init_85 : decode cX3_init 85 = .ok (.iconst 0, 1) := dk_3 (dk_at dksX3_init_3 16 rfl rfl)
theorem dX3_init_86 : decode cX3_init 86 = .ok (.iconst 1, 1) := dk_4 (dk_at dksX3_init_3 17 rfl rfl)
theorem dX3_init_87 : decode cX3_init 87 = .ok (.iastore, 1) := dk_79 (dk_at dksX3_init_3 18 rfl rfl)
theorem dX3_init_88 : decode cX3_init 88 = .ok (.aload_n 0, 1) := dk_42 (dk_at dksX3_init_3 19 rfl rfl)
theorem dX3_init_89 : decode cX3_init 89 = .ok (.getfield 74, 3) := dk_180 0 74 (dk_at dksX3_init_3 20 rfl rfl)
theorem dX3_init_92 : decode cX3_init 92 = .ok (.iconst 1, 1) := dk_4 (dk_at dksX3_init_3 23 rfl rfl)
theorem dX3_init_93 : decode cX3_init 93 = .ok (.iconst 1, 1) := dk_4 (dk_at dksX3_init_4 0 rfl rfl)
theorem dX3_init_94 : decode cX3_init 94 = .ok (.iastore, 1) := dk_79 (dk_at dksX3_init_4 1 rfl rfl)
theorem dX3_init_95 : decode cX3_init 95 = .ok (.return_, 1) := dk_177 (dk_at dksX3_init_4 2 rfl rfl)
abbrev cX3_text : ByteArray := prog_9_method_25_code
def yX3_text : MethodName := ⟨RX3, "text", "()I"⟩
def dkwX3_text_4 : List UInt8 := [27, 46, 79, 132, 1, 1, 167, 255, 234, 42, 3, 181, 0, 152, 42, 180, 0, 140, 172]
abbrev dktX3_text_4 : List UInt8 := dkwX3_text_4 ++ []
def dkwX3_text_3 : List UInt8 := [42, 180, 0, 65, 100, 172, 3, 60, 27, 17, 1, 52, 162, 0, 21, 42, 180, 0, 74, 27, 42, 180, 0, 77]
abbrev dktX3_text_3 : List UInt8 := dkwX3_text_3 ++ dktX3_text_4
def dkwX3_text_2 : List UInt8 := [180, 0, 77, 27, 3, 79, 132, 1, 1, 167, 255, 239, 42, 182, 0, 109, 42, 182, 0, 149, 154, 0, 10, 2]
abbrev dktX3_text_2 : List UInt8 := dkwX3_text_2 ++ dktX3_text_3
def dkwX3_text_1 : List UInt8 := [3, 181, 0, 21, 42, 3, 181, 0, 131, 42, 3, 181, 0, 140, 3, 60, 27, 17, 1, 52, 162, 0, 16, 42]
abbrev dktX3_text_1 : List UInt8 := dkwX3_text_1 ++ dktX3_text_2
def dkwX3_text_0 : List UInt8 := [42, 3, 181, 0, 1, 42, 42, 180, 0, 11, 181, 0, 18, 42, 3, 181, 0, 11, 42, 3, 181, 0, 62, 42]
abbrev dktX3_text_0 : List UInt8 := dkwX3_text_0 ++ dktX3_text_1
theorem dksX3_text_0 : cX3_text.data.toList.drop 0 = dktX3_text_0 := by decide +kernel
theorem dksX3_text_1 : cX3_text.data.toList.drop 24 = dktX3_text_1 := dk_seg dksX3_text_0 24 rfl rfl
theorem dksX3_text_2 : cX3_text.data.toList.drop 48 = dktX3_text_2 := dk_seg dksX3_text_1 24 rfl rfl
theorem dksX3_text_3 : cX3_text.data.toList.drop 72 = dktX3_text_3 := dk_seg dksX3_text_2 24 rfl rfl
theorem dksX3_text_4 : cX3_text.data.toList.drop 96 = dktX3_text_4 := dk_seg dksX3_text_3 24 rfl rfl
theorem dX3_text_0 : decode cX3_text 0 = .ok (.aload_n 0, 1) := dk_42 (dk_at dksX3_text_0 0 rfl rfl)
theorem dX3_text_1 : decode cX3_text 1 = .ok (.iconst 0, 1) := dk_3 (dk_at dksX3_text_0 1 rfl rfl)
theorem dX3_text_2 : decode cX3_text 2 = .ok (.putfield 1, 3) := dk_181 0 1 (dk_at dksX3_text_0 2 rfl rfl)
theorem dX3_text_5 : decode cX3_text 5 = .ok (.aload_n 0, 1) := dk_42 (dk_at dksX3_text_0 5 rfl rfl)
theorem dX3_text_6 : decode cX3_text 6 = .ok (.aload_n 0, 1) := dk_42 (dk_at dksX3_text_0 6 rfl rfl)
theorem dX3_text_7 : decode cX3_text 7 = .ok (.getfield 11, 3) := dk_180 0 11 (dk_at dksX3_text_0 7 rfl rfl)
theorem dX3_text_10 : decode cX3_text 10 = .ok (.putfield 18, 3) := dk_181 0 18 (dk_at dksX3_text_0 10 rfl rfl)
theorem dX3_text_13 : decode cX3_text 13 = .ok (.aload_n 0, 1) := dk_42 (dk_at dksX3_text_0 13 rfl rfl)
theorem dX3_text_14 : decode cX3_text 14 = .ok (.iconst 0, 1) := dk_3 (dk_at dksX3_text_0 14 rfl rfl)
theorem dX3_text_15 : decode cX3_text 15 = .ok (.putfield 11, 3) := dk_181 0 11 (dk_at dksX3_text_0 15 rfl rfl)
theorem dX3_text_18 : decode cX3_text 18 = .ok (.aload_n 0, 1) := dk_42 (dk_at dksX3_text_0 18 rfl rfl)
theorem dX3_text_19 : decode cX3_text 19 = .ok (.iconst 0, 1) := dk_3 (dk_at dksX3_text_0 19 rfl rfl)
theorem dX3_text_20 : decode cX3_text 20 = .ok (.putfield 62, 3) := dk_181 0 62 (dk_at dksX3_text_0 20 rfl rfl)
theorem dX3_text_23 : decode cX3_text 23 = .ok (.aload_n 0, 1) := dk_42 (dk_at dksX3_text_0 23 rfl rfl)
theorem dX3_text_24 : decode cX3_text 24 = .ok (.iconst 0, 1) := dk_3 (dk_at dksX3_text_1 0 rfl rfl)
theorem dX3_text_25 : decode cX3_text 25 = .ok (.putfield 21, 3) := dk_181 0 21 (dk_at dksX3_text_1 1 rfl rfl)
theorem dX3_text_28 : decode cX3_text 28 = .ok (.aload_n 0, 1) := dk_42 (dk_at dksX3_text_1 4 rfl rfl)
theorem dX3_text_29 : decode cX3_text 29 = .ok (.iconst 0, 1) := dk_3 (dk_at dksX3_text_1 5 rfl rfl)
theorem dX3_text_30 : decode cX3_text 30 = .ok (.putfield 131, 3) := dk_181 0 131 (dk_at dksX3_text_1 6 rfl rfl)
theorem dX3_text_33 : decode cX3_text 33 = .ok (.aload_n 0, 1) := dk_42 (dk_at dksX3_text_1 9 rfl rfl)
theorem dX3_text_34 : decode cX3_text 34 = .ok (.iconst 0, 1) := dk_3 (dk_at dksX3_text_1 10 rfl rfl)
theorem dX3_text_35 : decode cX3_text 35 = .ok (.putfield 140, 3) := dk_181 0 140 (dk_at dksX3_text_1 11 rfl rfl)
theorem dX3_text_38 : decode cX3_text 38 = .ok (.iconst 0, 1) := dk_3 (dk_at dksX3_text_1 14 rfl rfl)
theorem dX3_text_39 : decode cX3_text 39 = .ok (.istore_n 1, 1) := dk_60 (dk_at dksX3_text_1 15 rfl rfl)
theorem dX3_text_40 : decode cX3_text 40 = .ok (.iload_n 1, 1) := dk_27 (dk_at dksX3_text_1 16 rfl rfl)
theorem dX3_text_41 : decode cX3_text 41 = .ok (.sipush 308, 3) := dk_17 1 52 (dk_at dksX3_text_1 17 rfl rfl)
theorem dX3_text_44 : decode cX3_text 44 = .ok (.if_icmp .ge 16, 3) := dk_162 0 16 (dk_at dksX3_text_1 20 rfl rfl)
theorem dX3_text_47 : decode cX3_text 47 = .ok (.aload_n 0, 1) := dk_42 (dk_at dksX3_text_1 23 rfl rfl)
theorem dX3_text_48 : decode cX3_text 48 = .ok (.getfield 77, 3) := dk_180 0 77 (dk_at dksX3_text_2 0 rfl rfl)
theorem dX3_text_51 : decode cX3_text 51 = .ok (.iload_n 1, 1) := dk_27 (dk_at dksX3_text_2 3 rfl rfl)
theorem dX3_text_52 : decode cX3_text 52 = .ok (.iconst 0, 1) := dk_3 (dk_at dksX3_text_2 4 rfl rfl)
theorem dX3_text_53 : decode cX3_text 53 = .ok (.iastore, 1) := dk_79 (dk_at dksX3_text_2 5 rfl rfl)
theorem dX3_text_54 : decode cX3_text 54 = .ok (.iinc 1 1, 3) := dk_132 1 1 (dk_at dksX3_text_2 6 rfl rfl)
theorem dX3_text_57 : decode cX3_text 57 = .ok (.goto (-17), 3) := dk_167 255 239 (dk_at dksX3_text_2 9 rfl rfl)
theorem dX3_text_60 : decode cX3_text 60 = .ok (.aload_n 0, 1) := dk_42 (dk_at dksX3_text_2 12 rfl rfl)
theorem dX3_text_61 : decode cX3_text 61 = .ok (.invokevirtual 109, 3) := dk_182 0 109 (dk_at dksX3_text_2 13 rfl rfl)
theorem dX3_text_64 : decode cX3_text 64 = .ok (.aload_n 0, 1) := dk_42 (dk_at dksX3_text_2 16 rfl rfl)
theorem dX3_text_65 : decode cX3_text 65 = .ok (.invokevirtual 149, 3) := dk_182 0 149 (dk_at dksX3_text_2 17 rfl rfl)
theorem dX3_text_68 : decode cX3_text 68 = .ok (.ifCond .ne 10, 3) := dk_154 0 10 (dk_at dksX3_text_2 20 rfl rfl)
theorem dX3_text_71 : decode cX3_text 71 = .ok (.iconst (-1), 1) := dk_2 (dk_at dksX3_text_2 23 rfl rfl)
theorem dX3_text_72 : decode cX3_text 72 = .ok (.aload_n 0, 1) := dk_42 (dk_at dksX3_text_3 0 rfl rfl)
theorem dX3_text_73 : decode cX3_text 73 = .ok (.getfield 65, 3) := dk_180 0 65 (dk_at dksX3_text_3 1 rfl rfl)
theorem dX3_text_76 : decode cX3_text 76 = .ok (.isub, 1) := dk_100 (dk_at dksX3_text_3 4 rfl rfl)
theorem dX3_text_77 : decode cX3_text 77 = .ok (.ireturn, 1) := dk_172 (dk_at dksX3_text_3 5 rfl rfl)
theorem dX3_text_78 : decode cX3_text 78 = .ok (.iconst 0, 1) := dk_3 (dk_at dksX3_text_3 6 rfl rfl)
theorem dX3_text_79 : decode cX3_text 79 = .ok (.istore_n 1, 1) := dk_60 (dk_at dksX3_text_3 7 rfl rfl)
theorem dX3_text_80 : decode cX3_text 80 = .ok (.iload_n 1, 1) := dk_27 (dk_at dksX3_text_3 8 rfl rfl)
theorem dX3_text_81 : decode cX3_text 81 = .ok (.sipush 308, 3) := dk_17 1 52 (dk_at dksX3_text_3 9 rfl rfl)
theorem dX3_text_84 : decode cX3_text 84 = .ok (.if_icmp .ge 21, 3) := dk_162 0 21 (dk_at dksX3_text_3 12 rfl rfl)
theorem dX3_text_87 : decode cX3_text 87 = .ok (.aload_n 0, 1) := dk_42 (dk_at dksX3_text_3 15 rfl rfl)
theorem dX3_text_88 : decode cX3_text 88 = .ok (.getfield 74, 3) := dk_180 0 74 (dk_at dksX3_text_3 16 rfl rfl)
theorem dX3_text_91 : decode cX3_text 91 = .ok (.iload_n 1, 1) := dk_27 (dk_at dksX3_text_3 19 rfl rfl)
theorem dX3_text_92 : decode cX3_text 92 = .ok (.aload_n 0, 1) := dk_42 (dk_at dksX3_text_3 20 rfl rfl)
theorem dX3_text_93 : decode cX3_text 93 = .ok (.getfield 77, 3) := dk_180 0 77 (dk_at dksX3_text_3 21 rfl rfl)
theorem dX3_text_96 : decode cX3_text 96 = .ok (.iload_n 1, 1) := dk_27 (dk_at dksX3_text_4 0 rfl rfl)
theorem dX3_text_97 : decode cX3_text 97 = .ok (.iaload, 1) := dk_46 (dk_at dksX3_text_4 1 rfl rfl)
theorem dX3_text_98 : decode cX3_text 98 = .ok (.iastore, 1) := dk_79 (dk_at dksX3_text_4 2 rfl rfl)
theorem dX3_text_99 : decode cX3_text 99 = .ok (.iinc 1 1, 3) := dk_132 1 1 (dk_at dksX3_text_4 3 rfl rfl)
theorem dX3_text_102 : decode cX3_text 102 = .ok (.goto (-22), 3) := dk_167 255 234 (dk_at dksX3_text_4 6 rfl rfl)
theorem dX3_text_105 : decode cX3_text 105 = .ok (.aload_n 0, 1) := dk_42 (dk_at dksX3_text_4 9 rfl rfl)
theorem dX3_text_106 : decode cX3_text 106 = .ok (.iconst 0, 1) := dk_3 (dk_at dksX3_text_4 10 rfl rfl)
theorem dX3_text_107 : decode cX3_text 107 = .ok (.putfield 152, 3) := dk_181 0 152 (dk_at dksX3_text_4 11 rfl rfl)
theorem dX3_text_110 : decode cX3_text 110 = .ok (.aload_n 0, 1) := dk_42 (dk_at dksX3_text_4 14 rfl rfl)
theorem dX3_text_111 : decode cX3_text 111 = .ok (.getfield 140, 3) := dk_180 0 140 (dk_at dksX3_text_4 15 rfl rfl)
theorem dX3_text_114 : decode cX3_text 114 = .ok (.ireturn, 1) := dk_172 (dk_at dksX3_text_4 18 rfl rfl)
abbrev cX3_go : ByteArray := prog_9_method_10_code
def yX3_go : MethodName := ⟨RX3, "go", "()V"⟩
def dkwX3_go_14 : List UInt8 := [5, 164, 0, 7, 4, 167, 0, 12, 28, 153, 0, 7, 5, 167, 0, 4, 6, 181, 0, 27, 177]
abbrev dktX3_go_14 : List UInt8 := dkwX3_go_14 ++ []
def dkwX3_go_13 : List UInt8 := [181, 0, 21, 167, 255, 124, 42, 29, 153, 0, 20, 28, 154, 0, 20, 42, 180, 0, 21, 42, 180, 0, 24, 100]
abbrev dktX3_go_13 : List UInt8 := dkwX3_go_13 ++ dktX3_go_14
def dkwX3_go_12 : List UInt8 := [42, 16, 10, 42, 180, 0, 41, 104, 21, 4, 96, 16, 48, 100, 181, 0, 41, 42, 89, 180, 0, 21, 4, 96]
abbrev dktX3_go_12 : List UInt8 := dkwX3_go_12 ++ dktX3_go_13
def dkwX3_go_11 : List UInt8 := [21, 4, 133, 97, 20, 0, 50, 101, 181, 0, 37, 42, 180, 0, 21, 42, 180, 0, 24, 100, 5, 162, 0, 20]
abbrev dktX3_go_11 : List UInt8 := dkwX3_go_11 ++ dktX3_go_12
def dkwX3_go_10 : List UInt8 := [62, 42, 180, 0, 21, 42, 180, 0, 24, 100, 16, 6, 162, 0, 23, 42, 20, 0, 48, 42, 180, 0, 37, 105]
abbrev dktX3_go_10 : List UInt8 := dkwX3_go_10 ++ dktX3_go_11
def dkwX3_go_9 : List UInt8 := [180, 0, 21, 46, 54, 4, 29, 153, 0, 16, 21, 4, 184, 0, 30, 28, 160, 0, 7, 4, 167, 0, 4, 3]
abbrev dktX3_go_9 : List UInt8 := dkwX3_go_9 ++ dktX3_go_10
def dkwX3_go_8 : List UInt8 := [154, 0, 17, 42, 42, 180, 0, 21, 182, 0, 44, 184, 0, 34, 153, 0, 110, 42, 180, 0, 7, 42]
abbrev dktX3_go_8 : List UInt8 := dkwX3_go_8 ++ dktX3_go_9
def dkwX3_go_7 : List UInt8 := [62, 42, 9, 181, 0, 37, 42, 3, 181, 0, 41, 42, 42, 180, 0, 21, 182, 0, 44, 184, 0, 30]
abbrev dktX3_go_7 : List UInt8 := dkwX3_go_7 ++ dktX3_go_8
def dkwX3_go_6 : List UInt8 := [167, 0, 4, 4, 181, 0, 27, 42, 89, 180, 0, 21, 4, 96, 181, 0, 21, 177, 27, 184, 0, 30, 61, 4]
abbrev dktX3_go_6 : List UInt8 := dkwX3_go_6 ++ dktX3_go_7
def dkwX3_go_5 : List UInt8 := [46, 60, 27, 184, 0, 30, 154, 0, 36, 27, 184, 0, 34, 154, 0, 29, 42, 27, 16, 59, 160, 0, 7, 7]
abbrev dktX3_go_5 : List UInt8 := dkwX3_go_5 ++ dktX3_go_6
def dkwX3_go_4 : List UInt8 := [180, 0, 21, 42, 180, 0, 18, 161, 0, 9, 42, 3, 181, 0, 27, 177, 42, 180, 0, 7, 42, 180, 0, 21]
abbrev dktX3_go_4 : List UInt8 := dkwX3_go_4 ++ dktX3_go_5
def dkwX3_go_3 : List UInt8 := [42, 180, 0, 24, 17, 2, 88, 161, 0, 16, 42, 17, 2, 88, 181, 0, 24, 42, 4, 181, 0, 27, 177, 42]
abbrev dktX3_go_3 : List UInt8 := dkwX3_go_3 ++ dktX3_go_4
def dkwX3_go_2 : List UInt8 := [181, 0, 21, 167, 255, 207, 42, 42, 180, 0, 21, 181, 0, 24, 42, 180, 0, 18, 17, 2, 88, 164, 0, 26]
abbrev dktX3_go_2 : List UInt8 := dkwX3_go_2 ++ dktX3_go_3
def dkwX3_go_1 : List UInt8 := [159, 0, 17, 42, 180, 0, 7, 42, 180, 0, 21, 46, 16, 10, 160, 0, 16, 42, 89, 180, 0, 21, 4, 96]
abbrev dktX3_go_1 : List UInt8 := dkwX3_go_1 ++ dktX3_go_2
def dkwX3_go_0 : List UInt8 := [42, 180, 0, 21, 42, 180, 0, 18, 162, 0, 44, 42, 180, 0, 7, 42, 180, 0, 21, 46, 16, 32]
abbrev dktX3_go_0 : List UInt8 := dkwX3_go_0 ++ dktX3_go_1
theorem dksX3_go_0 : cX3_go.data.toList.drop 0 = dktX3_go_0 := by decide +kernel
theorem dksX3_go_1 : cX3_go.data.toList.drop 22 = dktX3_go_1 := dk_seg dksX3_go_0 22 rfl rfl
theorem dksX3_go_2 : cX3_go.data.toList.drop 46 = dktX3_go_2 := dk_seg dksX3_go_1 24 rfl rfl
theorem dksX3_go_3 : cX3_go.data.toList.drop 70 = dktX3_go_3 := dk_seg dksX3_go_2 24 rfl rfl
theorem dksX3_go_4 : cX3_go.data.toList.drop 94 = dktX3_go_4 := dk_seg dksX3_go_3 24 rfl rfl
theorem dksX3_go_5 : cX3_go.data.toList.drop 118 = dktX3_go_5 := dk_seg dksX3_go_4 24 rfl rfl
theorem dksX3_go_6 : cX3_go.data.toList.drop 142 = dktX3_go_6 := dk_seg dksX3_go_5 24 rfl rfl
theorem dksX3_go_7 : cX3_go.data.toList.drop 166 = dktX3_go_7 := dk_seg dksX3_go_6 24 rfl rfl
theorem dksX3_go_8 : cX3_go.data.toList.drop 188 = dktX3_go_8 := dk_seg dksX3_go_7 22 rfl rfl
theorem dksX3_go_9 : cX3_go.data.toList.drop 210 = dktX3_go_9 := dk_seg dksX3_go_8 22 rfl rfl
theorem dksX3_go_10 : cX3_go.data.toList.drop 234 = dktX3_go_10 := dk_seg dksX3_go_9 24 rfl rfl
theorem dksX3_go_11 : cX3_go.data.toList.drop 258 = dktX3_go_11 := dk_seg dksX3_go_10 24 rfl rfl
theorem dksX3_go_12 : cX3_go.data.toList.drop 282 = dktX3_go_12 := dk_seg dksX3_go_11 24 rfl rfl
theorem dksX3_go_13 : cX3_go.data.toList.drop 306 = dktX3_go_13 := dk_seg dksX3_go_12 24 rfl rfl
theorem dksX3_go_14 : cX3_go.data.toList.drop 330 = dktX3_go_14 := dk_seg dksX3_go_13 24 rfl rfl
theorem dX3_go_0 : decode cX3_go 0 = .ok (.aload_n 0, 1) := dk_42 (dk_at dksX3_go_0 0 rfl rfl)
theorem dX3_go_1 : decode cX3_go 1 = .ok (.getfield 21, 3) := dk_180 0 21 (dk_at dksX3_go_0 1 rfl rfl)
theorem dX3_go_4 : decode cX3_go 4 = .ok (.aload_n 0, 1) := dk_42 (dk_at dksX3_go_0 4 rfl rfl)
theorem dX3_go_5 : decode cX3_go 5 = .ok (.getfield 18, 3) := dk_180 0 18 (dk_at dksX3_go_0 5 rfl rfl)
theorem dX3_go_8 : decode cX3_go 8 = .ok (.if_icmp .ge 44, 3) := dk_162 0 44 (dk_at dksX3_go_0 8 rfl rfl)
theorem dX3_go_11 : decode cX3_go 11 = .ok (.aload_n 0, 1) := dk_42 (dk_at dksX3_go_0 11 rfl rfl)
theorem dX3_go_12 : decode cX3_go 12 = .ok (.getfield 7, 3) := dk_180 0 7 (dk_at dksX3_go_0 12 rfl rfl)
theorem dX3_go_15 : decode cX3_go 15 = .ok (.aload_n 0, 1) := dk_42 (dk_at dksX3_go_0 15 rfl rfl)
theorem dX3_go_16 : decode cX3_go 16 = .ok (.getfield 21, 3) := dk_180 0 21 (dk_at dksX3_go_0 16 rfl rfl)
theorem dX3_go_19 : decode cX3_go 19 = .ok (.iaload, 1) := dk_46 (dk_at dksX3_go_0 19 rfl rfl)
theorem dX3_go_20 : decode cX3_go 20 = .ok (.bipush 32, 2) := dk_16 32 (dk_at dksX3_go_0 20 rfl rfl)
theorem dX3_go_22 : decode cX3_go 22 = .ok (.if_icmp .eq 17, 3) := dk_159 0 17 (dk_at dksX3_go_1 0 rfl rfl)
theorem dX3_go_25 : decode cX3_go 25 = .ok (.aload_n 0, 1) := dk_42 (dk_at dksX3_go_1 3 rfl rfl)
theorem dX3_go_26 : decode cX3_go 26 = .ok (.getfield 7, 3) := dk_180 0 7 (dk_at dksX3_go_1 4 rfl rfl)
theorem dX3_go_29 : decode cX3_go 29 = .ok (.aload_n 0, 1) := dk_42 (dk_at dksX3_go_1 7 rfl rfl)
theorem dX3_go_30 : decode cX3_go 30 = .ok (.getfield 21, 3) := dk_180 0 21 (dk_at dksX3_go_1 8 rfl rfl)
theorem dX3_go_33 : decode cX3_go 33 = .ok (.iaload, 1) := dk_46 (dk_at dksX3_go_1 11 rfl rfl)
theorem dX3_go_34 : decode cX3_go 34 = .ok (.bipush 10, 2) := dk_16 10 (dk_at dksX3_go_1 12 rfl rfl)
theorem dX3_go_36 : decode cX3_go 36 = .ok (.if_icmp .ne 16, 3) := dk_160 0 16 (dk_at dksX3_go_1 14 rfl rfl)
theorem dX3_go_39 : decode cX3_go 39 = .ok (.aload_n 0, 1) := dk_42 (dk_at dksX3_go_1 17 rfl rfl)
theorem dX3_go_40 : decode cX3_go 40 = .ok (.dup, 1) := dk_89 (dk_at dksX3_go_1 18 rfl rfl)
theorem dX3_go_41 : decode cX3_go 41 = .ok (.getfield 21, 3) := dk_180 0 21 (dk_at dksX3_go_1 19 rfl rfl)
theorem dX3_go_44 : decode cX3_go 44 = .ok (.iconst 1, 1) := dk_4 (dk_at dksX3_go_1 22 rfl rfl)
theorem dX3_go_45 : decode cX3_go 45 = .ok (.iadd, 1) := dk_96 (dk_at dksX3_go_1 23 rfl rfl)
theorem dX3_go_46 : decode cX3_go 46 = .ok (.putfield 21, 3) := dk_181 0 21 (dk_at dksX3_go_2 0 rfl rfl)
theorem dX3_go_49 : decode cX3_go 49 = .ok (.goto (-49), 3) := dk_167 255 207 (dk_at dksX3_go_2 3 rfl rfl)
theorem dX3_go_52 : decode cX3_go 52 = .ok (.aload_n 0, 1) := dk_42 (dk_at dksX3_go_2 6 rfl rfl)
theorem dX3_go_53 : decode cX3_go 53 = .ok (.aload_n 0, 1) := dk_42 (dk_at dksX3_go_2 7 rfl rfl)
theorem dX3_go_54 : decode cX3_go 54 = .ok (.getfield 21, 3) := dk_180 0 21 (dk_at dksX3_go_2 8 rfl rfl)
theorem dX3_go_57 : decode cX3_go 57 = .ok (.putfield 24, 3) := dk_181 0 24 (dk_at dksX3_go_2 11 rfl rfl)
theorem dX3_go_60 : decode cX3_go 60 = .ok (.aload_n 0, 1) := dk_42 (dk_at dksX3_go_2 14 rfl rfl)
theorem dX3_go_61 : decode cX3_go 61 = .ok (.getfield 18, 3) := dk_180 0 18 (dk_at dksX3_go_2 15 rfl rfl)
theorem dX3_go_64 : decode cX3_go 64 = .ok (.sipush 600, 3) := dk_17 2 88 (dk_at dksX3_go_2 18 rfl rfl)
theorem dX3_go_67 : decode cX3_go 67 = .ok (.if_icmp .le 26, 3) := dk_164 0 26 (dk_at dksX3_go_2 21 rfl rfl)
theorem dX3_go_70 : decode cX3_go 70 = .ok (.aload_n 0, 1) := dk_42 (dk_at dksX3_go_3 0 rfl rfl)
theorem dX3_go_71 : decode cX3_go 71 = .ok (.getfield 24, 3) := dk_180 0 24 (dk_at dksX3_go_3 1 rfl rfl)
theorem dX3_go_74 : decode cX3_go 74 = .ok (.sipush 600, 3) := dk_17 2 88 (dk_at dksX3_go_3 4 rfl rfl)
theorem dX3_go_77 : decode cX3_go 77 = .ok (.if_icmp .lt 16, 3) := dk_161 0 16 (dk_at dksX3_go_3 7 rfl rfl)
theorem dX3_go_80 : decode cX3_go 80 = .ok (.aload_n 0, 1) := dk_42 (dk_at dksX3_go_3 10 rfl rfl)
theorem dX3_go_81 : decode cX3_go 81 = .ok (.sipush 600, 3) := dk_17 2 88 (dk_at dksX3_go_3 11 rfl rfl)
theorem dX3_go_84 : decode cX3_go 84 = .ok (.putfield 24, 3) := dk_181 0 24 (dk_at dksX3_go_3 14 rfl rfl)
theorem dX3_go_87 : decode cX3_go 87 = .ok (.aload_n 0, 1) := dk_42 (dk_at dksX3_go_3 17 rfl rfl)
theorem dX3_go_88 : decode cX3_go 88 = .ok (.iconst 1, 1) := dk_4 (dk_at dksX3_go_3 18 rfl rfl)
theorem dX3_go_89 : decode cX3_go 89 = .ok (.putfield 27, 3) := dk_181 0 27 (dk_at dksX3_go_3 19 rfl rfl)
theorem dX3_go_92 : decode cX3_go 92 = .ok (.return_, 1) := dk_177 (dk_at dksX3_go_3 22 rfl rfl)
theorem dX3_go_93 : decode cX3_go 93 = .ok (.aload_n 0, 1) := dk_42 (dk_at dksX3_go_3 23 rfl rfl)
theorem dX3_go_94 : decode cX3_go 94 = .ok (.getfield 21, 3) := dk_180 0 21 (dk_at dksX3_go_4 0 rfl rfl)
theorem dX3_go_97 : decode cX3_go 97 = .ok (.aload_n 0, 1) := dk_42 (dk_at dksX3_go_4 3 rfl rfl)
theorem dX3_go_98 : decode cX3_go 98 = .ok (.getfield 18, 3) := dk_180 0 18 (dk_at dksX3_go_4 4 rfl rfl)
theorem dX3_go_101 : decode cX3_go 101 = .ok (.if_icmp .lt 9, 3) := dk_161 0 9 (dk_at dksX3_go_4 7 rfl rfl)
theorem dX3_go_104 : decode cX3_go 104 = .ok (.aload_n 0, 1) := dk_42 (dk_at dksX3_go_4 10 rfl rfl)
theorem dX3_go_105 : decode cX3_go 105 = .ok (.iconst 0, 1) := dk_3 (dk_at dksX3_go_4 11 rfl rfl)
theorem dX3_go_106 : decode cX3_go 106 = .ok (.putfield 27, 3) := dk_181 0 27 (dk_at dksX3_go_4 12 rfl rfl)
theorem dX3_go_109 : decode cX3_go 109 = .ok (.return_, 1) := dk_177 (dk_at dksX3_go_4 15 rfl rfl)
theorem dX3_go_110 : decode cX3_go 110 = .ok (.aload_n 0, 1) := dk_42 (dk_at dksX3_go_4 16 rfl rfl)
theorem dX3_go_111 : decode cX3_go 111 = .ok (.getfield 7, 3) := dk_180 0 7 (dk_at dksX3_go_4 17 rfl rfl)
theorem dX3_go_114 : decode cX3_go 114 = .ok (.aload_n 0, 1) := dk_42 (dk_at dksX3_go_4 20 rfl rfl)
theorem dX3_go_115 : decode cX3_go 115 = .ok (.getfield 21, 3) := dk_180 0 21 (dk_at dksX3_go_4 21 rfl rfl)
theorem dX3_go_118 : decode cX3_go 118 = .ok (.iaload, 1) := dk_46 (dk_at dksX3_go_5 0 rfl rfl)
theorem dX3_go_119 : decode cX3_go 119 = .ok (.istore_n 1, 1) := dk_60 (dk_at dksX3_go_5 1 rfl rfl)
theorem dX3_go_120 : decode cX3_go 120 = .ok (.iload_n 1, 1) := dk_27 (dk_at dksX3_go_5 2 rfl rfl)
theorem dX3_go_121 : decode cX3_go 121 = .ok (.invokestatic 30, 3) := dk_184 0 30 (dk_at dksX3_go_5 3 rfl rfl)
theorem dX3_go_124 : decode cX3_go 124 = .ok (.ifCond .ne 36, 3) := dk_154 0 36 (dk_at dksX3_go_5 6 rfl rfl)
theorem dX3_go_127 : decode cX3_go 127 = .ok (.iload_n 1, 1) := dk_27 (dk_at dksX3_go_5 9 rfl rfl)
theorem dX3_go_128 : decode cX3_go 128 = .ok (.invokestatic 34, 3) := dk_184 0 34 (dk_at dksX3_go_5 10 rfl rfl)
theorem dX3_go_131 : decode cX3_go 131 = .ok (.ifCond .ne 29, 3) := dk_154 0 29 (dk_at dksX3_go_5 13 rfl rfl)
theorem dX3_go_134 : decode cX3_go 134 = .ok (.aload_n 0, 1) := dk_42 (dk_at dksX3_go_5 16 rfl rfl)
theorem dX3_go_135 : decode cX3_go 135 = .ok (.iload_n 1, 1) := dk_27 (dk_at dksX3_go_5 17 rfl rfl)
theorem dX3_go_136 : decode cX3_go 136 = .ok (.bipush 59, 2) := dk_16 59 (dk_at dksX3_go_5 18 rfl rfl)
theorem dX3_go_138 : decode cX3_go 138 = .ok (.if_icmp .ne 7, 3) := dk_160 0 7 (dk_at dksX3_go_5 20 rfl rfl)
theorem dX3_go_141 : decode cX3_go 141 = .ok (.iconst 4, 1) := dk_7 (dk_at dksX3_go_5 23 rfl rfl)
theorem dX3_go_142 : decode cX3_go 142 = .ok (.goto 4, 3) := dk_167 0 4 (dk_at dksX3_go_6 0 rfl rfl)
theorem dX3_go_145 : decode cX3_go 145 = .ok (.iconst 1, 1) := dk_4 (dk_at dksX3_go_6 3 rfl rfl)
theorem dX3_go_146 : decode cX3_go 146 = .ok (.putfield 27, 3) := dk_181 0 27 (dk_at dksX3_go_6 4 rfl rfl)
theorem dX3_go_149 : decode cX3_go 149 = .ok (.aload_n 0, 1) := dk_42 (dk_at dksX3_go_6 7 rfl rfl)
theorem dX3_go_150 : decode cX3_go 150 = .ok (.dup, 1) := dk_89 (dk_at dksX3_go_6 8 rfl rfl)
theorem dX3_go_151 : decode cX3_go 151 = .ok (.getfield 21, 3) := dk_180 0 21 (dk_at dksX3_go_6 9 rfl rfl)
theorem dX3_go_154 : decode cX3_go 154 = .ok (.iconst 1, 1) := dk_4 (dk_at dksX3_go_6 12 rfl rfl)
theorem dX3_go_155 : decode cX3_go 155 = .ok (.iadd, 1) := dk_96 (dk_at dksX3_go_6 13 rfl rfl)
theorem dX3_go_156 : decode cX3_go 156 = .ok (.putfield 21, 3) := dk_181 0 21 (dk_at dksX3_go_6 14 rfl rfl)
theorem dX3_go_159 : decode cX3_go 159 = .ok (.return_, 1) := dk_177 (dk_at dksX3_go_6 17 rfl rfl)
theorem dX3_go_160 : decode cX3_go 160 = .ok (.iload_n 1, 1) := dk_27 (dk_at dksX3_go_6 18 rfl rfl)
theorem dX3_go_161 : decode cX3_go 161 = .ok (.invokestatic 30, 3) := dk_184 0 30 (dk_at dksX3_go_6 19 rfl rfl)
theorem dX3_go_164 : decode cX3_go 164 = .ok (.istore_n 2, 1) := dk_61 (dk_at dksX3_go_6 22 rfl rfl)
theorem dX3_go_165 : decode cX3_go 165 = .ok (.iconst 1, 1) := dk_4 (dk_at dksX3_go_6 23 rfl rfl)
theorem dX3_go_166 : decode cX3_go 166 = .ok (.istore_n 3, 1) := dk_62 (dk_at dksX3_go_7 0 rfl rfl)
theorem dX3_go_167 : decode cX3_go 167 = .ok (.aload_n 0, 1) := dk_42 (dk_at dksX3_go_7 1 rfl rfl)
theorem dX3_go_168 : decode cX3_go 168 = .ok (.lconst 0, 1) := dk_9 (dk_at dksX3_go_7 2 rfl rfl)
theorem dX3_go_169 : decode cX3_go 169 = .ok (.putfield 37, 3) := dk_181 0 37 (dk_at dksX3_go_7 3 rfl rfl)
theorem dX3_go_172 : decode cX3_go 172 = .ok (.aload_n 0, 1) := dk_42 (dk_at dksX3_go_7 6 rfl rfl)
theorem dX3_go_173 : decode cX3_go 173 = .ok (.iconst 0, 1) := dk_3 (dk_at dksX3_go_7 7 rfl rfl)
theorem dX3_go_174 : decode cX3_go 174 = .ok (.putfield 41, 3) := dk_181 0 41 (dk_at dksX3_go_7 8 rfl rfl)
theorem dX3_go_177 : decode cX3_go 177 = .ok (.aload_n 0, 1) := dk_42 (dk_at dksX3_go_7 11 rfl rfl)
theorem dX3_go_178 : decode cX3_go 178 = .ok (.aload_n 0, 1) := dk_42 (dk_at dksX3_go_7 12 rfl rfl)
theorem dX3_go_179 : decode cX3_go 179 = .ok (.getfield 21, 3) := dk_180 0 21 (dk_at dksX3_go_7 13 rfl rfl)
theorem dX3_go_182 : decode cX3_go 182 = .ok (.invokevirtual 44, 3) := dk_182 0 44 (dk_at dksX3_go_7 16 rfl rfl)
theorem dX3_go_185 : decode cX3_go 185 = .ok (.invokestatic 30, 3) := dk_184 0 30 (dk_at dksX3_go_7 19 rfl rfl)
theorem dX3_go_188 : decode cX3_go 188 = .ok (.ifCond .ne 17, 3) := dk_154 0 17 (dk_at dksX3_go_8 0 rfl rfl)
theorem dX3_go_191 : decode cX3_go 191 = .ok (.aload_n 0, 1) := dk_42 (dk_at dksX3_go_8 3 rfl rfl)
theorem dX3_go_192 : decode cX3_go 192 = .ok (.aload_n 0, 1) := dk_42 (dk_at dksX3_go_8 4 rfl rfl)
theorem dX3_go_193 : decode cX3_go 193 = .ok (.getfield 21, 3) := dk_180 0 21 (dk_at dksX3_go_8 5 rfl rfl)
theorem dX3_go_196 : decode cX3_go 196 = .ok (.invokevirtual 44, 3) := dk_182 0 44 (dk_at dksX3_go_8 8 rfl rfl)
theorem dX3_go_199 : decode cX3_go 199 = .ok (.invokestatic 34, 3) := dk_184 0 34 (dk_at dksX3_go_8 11 rfl rfl)
theorem dX3_go_202 : decode cX3_go 202 = .ok (.ifCond .eq 110, 3) := dk_153 0 110 (dk_at dksX3_go_8 14 rfl rfl)
theorem dX3_go_205 : decode cX3_go 205 = .ok (.aload_n 0, 1) := dk_42 (dk_at dksX3_go_8 17 rfl rfl)
theorem dX3_go_206 : decode cX3_go 206 = .ok (.getfield 7, 3) := dk_180 0 7 (dk_at dksX3_go_8 18 rfl rfl)
theorem dX3_go_209 : decode cX3_go 209 = .ok (.aload_n 0, 1) := dk_42 (dk_at dksX3_go_8 21 rfl rfl)
theorem dX3_go_210 : decode cX3_go 210 = .ok (.getfield 21, 3) := dk_180 0 21 (dk_at dksX3_go_9 0 rfl rfl)
theorem dX3_go_213 : decode cX3_go 213 = .ok (.iaload, 1) := dk_46 (dk_at dksX3_go_9 3 rfl rfl)
theorem dX3_go_214 : decode cX3_go 214 = .ok (.istore 4, 2) := dk_54 4 (dk_at dksX3_go_9 4 rfl rfl)
theorem dX3_go_216 : decode cX3_go 216 = .ok (.iload_n 3, 1) := dk_29 (dk_at dksX3_go_9 6 rfl rfl)
theorem dX3_go_217 : decode cX3_go 217 = .ok (.ifCond .eq 16, 3) := dk_153 0 16 (dk_at dksX3_go_9 7 rfl rfl)
theorem dX3_go_220 : decode cX3_go 220 = .ok (.iload 4, 2) := dk_21 4 (dk_at dksX3_go_9 10 rfl rfl)
theorem dX3_go_222 : decode cX3_go 222 = .ok (.invokestatic 30, 3) := dk_184 0 30 (dk_at dksX3_go_9 12 rfl rfl)
theorem dX3_go_225 : decode cX3_go 225 = .ok (.iload_n 2, 1) := dk_28 (dk_at dksX3_go_9 15 rfl rfl)
theorem dX3_go_226 : decode cX3_go 226 = .ok (.if_icmp .ne 7, 3) := dk_160 0 7 (dk_at dksX3_go_9 16 rfl rfl)
theorem dX3_go_229 : decode cX3_go 229 = .ok (.iconst 1, 1) := dk_4 (dk_at dksX3_go_9 19 rfl rfl)
theorem dX3_go_230 : decode cX3_go 230 = .ok (.goto 4, 3) := dk_167 0 4 (dk_at dksX3_go_9 20 rfl rfl)
theorem dX3_go_233 : decode cX3_go 233 = .ok (.iconst 0, 1) := dk_3 (dk_at dksX3_go_9 23 rfl rfl)
theorem dX3_go_234 : decode cX3_go 234 = .ok (.istore_n 3, 1) := dk_62 (dk_at dksX3_go_10 0 rfl rfl)
theorem dX3_go_235 : decode cX3_go 235 = .ok (.aload_n 0, 1) := dk_42 (dk_at dksX3_go_10 1 rfl rfl)
theorem dX3_go_236 : decode cX3_go 236 = .ok (.getfield 21, 3) := dk_180 0 21 (dk_at dksX3_go_10 2 rfl rfl)
theorem dX3_go_239 : decode cX3_go 239 = .ok (.aload_n 0, 1) := dk_42 (dk_at dksX3_go_10 5 rfl rfl)
theorem dX3_go_240 : decode cX3_go 240 = .ok (.getfield 24, 3) := dk_180 0 24 (dk_at dksX3_go_10 6 rfl rfl)
theorem dX3_go_243 : decode cX3_go 243 = .ok (.isub, 1) := dk_100 (dk_at dksX3_go_10 9 rfl rfl)
theorem dX3_go_244 : decode cX3_go 244 = .ok (.bipush 6, 2) := dk_16 6 (dk_at dksX3_go_10 10 rfl rfl)
theorem dX3_go_246 : decode cX3_go 246 = .ok (.if_icmp .ge 23, 3) := dk_162 0 23 (dk_at dksX3_go_10 12 rfl rfl)
theorem dX3_go_249 : decode cX3_go 249 = .ok (.aload_n 0, 1) := dk_42 (dk_at dksX3_go_10 15 rfl rfl)
theorem dX3_go_250 : decode cX3_go 250 = .ok (.ldc2_w 48, 3) := dk_20 0 48 (dk_at dksX3_go_10 16 rfl rfl)
theorem dX3_go_253 : decode cX3_go 253 = .ok (.aload_n 0, 1) := dk_42 (dk_at dksX3_go_10 19 rfl rfl)
theorem dX3_go_254 : decode cX3_go 254 = .ok (.getfield 37, 3) := dk_180 0 37 (dk_at dksX3_go_10 20 rfl rfl)
theorem dX3_go_257 : decode cX3_go 257 = .ok (.lmul, 1) := dk_105 (dk_at dksX3_go_10 23 rfl rfl)
theorem dX3_go_258 : decode cX3_go 258 = .ok (.iload 4, 2) := dk_21 4 (dk_at dksX3_go_11 0 rfl rfl)
theorem dX3_go_260 : decode cX3_go 260 = .ok (.i2l, 1) := dk_133 (dk_at dksX3_go_11 2 rfl rfl)
theorem dX3_go_261 : decode cX3_go 261 = .ok (.ladd, 1) := dk_97 (dk_at dksX3_go_11 3 rfl rfl)
theorem dX3_go_262 : decode cX3_go 262 = .ok (.ldc2_w 50, 3) := dk_20 0 50 (dk_at dksX3_go_11 4 rfl rfl)
theorem dX3_go_265 : decode cX3_go 265 = .ok (.lsub, 1) := dk_101 (dk_at dksX3_go_11 7 rfl rfl)
theorem dX3_go_266 : decode cX3_go 266 = .ok (.putfield 37, 3) := dk_181 0 37 (dk_at dksX3_go_11 8 rfl rfl)
theorem dX3_go_269 : decode cX3_go 269 = .ok (.aload_n 0, 1) := dk_42 (dk_at dksX3_go_11 11 rfl rfl)
theorem dX3_go_270 : decode cX3_go 270 = .ok (.getfield 21, 3) := dk_180 0 21 (dk_at dksX3_go_11 12 rfl rfl)
theorem dX3_go_273 : decode cX3_go 273 = .ok (.aload_n 0, 1) := dk_42 (dk_at dksX3_go_11 15 rfl rfl)
theorem dX3_go_274 : decode cX3_go 274 = .ok (.getfield 24, 3) := dk_180 0 24 (dk_at dksX3_go_11 16 rfl rfl)
theorem dX3_go_277 : decode cX3_go 277 = .ok (.isub, 1) := dk_100 (dk_at dksX3_go_11 19 rfl rfl)
theorem dX3_go_278 : decode cX3_go 278 = .ok (.iconst 2, 1) := dk_5 (dk_at dksX3_go_11 20 rfl rfl)
theorem dX3_go_279 : decode cX3_go 279 = .ok (.if_icmp .ge 20, 3) := dk_162 0 20 (dk_at dksX3_go_11 21 rfl rfl)
theorem dX3_go_282 : decode cX3_go 282 = .ok (.aload_n 0, 1) := dk_42 (dk_at dksX3_go_12 0 rfl rfl)
theorem dX3_go_283 : decode cX3_go 283 = .ok (.bipush 10, 2) := dk_16 10 (dk_at dksX3_go_12 1 rfl rfl)
theorem dX3_go_285 : decode cX3_go 285 = .ok (.aload_n 0, 1) := dk_42 (dk_at dksX3_go_12 3 rfl rfl)
theorem dX3_go_286 : decode cX3_go 286 = .ok (.getfield 41, 3) := dk_180 0 41 (dk_at dksX3_go_12 4 rfl rfl)
theorem dX3_go_289 : decode cX3_go 289 = .ok (.imul, 1) := dk_104 (dk_at dksX3_go_12 7 rfl rfl)
theorem dX3_go_290 : decode cX3_go 290 = .ok (.iload 4, 2) := dk_21 4 (dk_at dksX3_go_12 8 rfl rfl)
theorem dX3_go_292 : decode cX3_go 292 = .ok (.iadd, 1) := dk_96 (dk_at dksX3_go_12 10 rfl rfl)
theorem dX3_go_293 : decode cX3_go 293 = .ok (.bipush 48, 2) := dk_16 48 (dk_at dksX3_go_12 11 rfl rfl)
theorem dX3_go_295 : decode cX3_go 295 = .ok (.isub, 1) := dk_100 (dk_at dksX3_go_12 13 rfl rfl)
theorem dX3_go_296 : decode cX3_go 296 = .ok (.putfield 41, 3) := dk_181 0 41 (dk_at dksX3_go_12 14 rfl rfl)
theorem dX3_go_299 : decode cX3_go 299 = .ok (.aload_n 0, 1) := dk_42 (dk_at dksX3_go_12 17 rfl rfl)
theorem dX3_go_300 : decode cX3_go 300 = .ok (.dup, 1) := dk_89 (dk_at dksX3_go_12 18 rfl rfl)
theorem dX3_go_301 : decode cX3_go 301 = .ok (.getfield 21, 3) := dk_180 0 21 (dk_at dksX3_go_12 19 rfl rfl)
theorem dX3_go_304 : decode cX3_go 304 = .ok (.iconst 1, 1) := dk_4 (dk_at dksX3_go_12 22 rfl rfl)
theorem dX3_go_305 : decode cX3_go 305 = .ok (.iadd, 1) := dk_96 (dk_at dksX3_go_12 23 rfl rfl)
theorem dX3_go_306 : decode cX3_go 306 = .ok (.putfield 21, 3) := dk_181 0 21 (dk_at dksX3_go_13 0 rfl rfl)
theorem dX3_go_309 : decode cX3_go 309 = .ok (.goto (-132), 3) := dk_167 255 124 (dk_at dksX3_go_13 3 rfl rfl)
theorem dX3_go_312 : decode cX3_go 312 = .ok (.aload_n 0, 1) := dk_42 (dk_at dksX3_go_13 6 rfl rfl)
theorem dX3_go_313 : decode cX3_go 313 = .ok (.iload_n 3, 1) := dk_29 (dk_at dksX3_go_13 7 rfl rfl)
theorem dX3_go_314 : decode cX3_go 314 = .ok (.ifCond .eq 20, 3) := dk_153 0 20 (dk_at dksX3_go_13 8 rfl rfl)
theorem dX3_go_317 : decode cX3_go 317 = .ok (.iload_n 2, 1) := dk_28 (dk_at dksX3_go_13 11 rfl rfl)
theorem dX3_go_318 : decode cX3_go 318 = .ok (.ifCond .ne 20, 3) := dk_154 0 20 (dk_at dksX3_go_13 12 rfl rfl)
theorem dX3_go_321 : decode cX3_go 321 = .ok (.aload_n 0, 1) := dk_42 (dk_at dksX3_go_13 15 rfl rfl)
theorem dX3_go_322 : decode cX3_go 322 = .ok (.getfield 21, 3) := dk_180 0 21 (dk_at dksX3_go_13 16 rfl rfl)
theorem dX3_go_325 : decode cX3_go 325 = .ok (.aload_n 0, 1) := dk_42 (dk_at dksX3_go_13 19 rfl rfl)
theorem dX3_go_326 : decode cX3_go 326 = .ok (.getfield 24, 3) := dk_180 0 24 (dk_at dksX3_go_13 20 rfl rfl)
theorem dX3_go_329 : decode cX3_go 329 = .ok (.isub, 1) := dk_100 (dk_at dksX3_go_13 23 rfl rfl)
theorem dX3_go_330 : decode cX3_go 330 = .ok (.iconst 2, 1) := dk_5 (dk_at dksX3_go_14 0 rfl rfl)
theorem dX3_go_331 : decode cX3_go 331 = .ok (.if_icmp .le 7, 3) := dk_164 0 7 (dk_at dksX3_go_14 1 rfl rfl)
theorem dX3_go_334 : decode cX3_go 334 = .ok (.iconst 1, 1) := dk_4 (dk_at dksX3_go_14 4 rfl rfl)
theorem dX3_go_335 : decode cX3_go 335 = .ok (.goto 12, 3) := dk_167 0 12 (dk_at dksX3_go_14 5 rfl rfl)
theorem dX3_go_338 : decode cX3_go 338 = .ok (.iload_n 2, 1) := dk_28 (dk_at dksX3_go_14 8 rfl rfl)
theorem dX3_go_339 : decode cX3_go 339 = .ok (.ifCond .eq 7, 3) := dk_153 0 7 (dk_at dksX3_go_14 9 rfl rfl)
theorem dX3_go_342 : decode cX3_go 342 = .ok (.iconst 2, 1) := dk_5 (dk_at dksX3_go_14 12 rfl rfl)
theorem dX3_go_343 : decode cX3_go 343 = .ok (.goto 4, 3) := dk_167 0 4 (dk_at dksX3_go_14 13 rfl rfl)
theorem dX3_go_346 : decode cX3_go 346 = .ok (.iconst 3, 1) := dk_6 (dk_at dksX3_go_14 16 rfl rfl)
theorem dX3_go_347 : decode cX3_go 347 = .ok (.putfield 27, 3) := dk_181 0 27 (dk_at dksX3_go_14 17 rfl rfl)
theorem dX3_go_350 : decode cX3_go 350 = .ok (.return_, 1) := dk_177 (dk_at dksX3_go_14 20 rfl rfl)
abbrev cX3_isLetter : ByteArray := prog_9_method_9_code
def yX3_isLetter : MethodName := ⟨RX3, "isLetter", "(I)Z"⟩
def dkwX3_isLetter_0 : List UInt8 := [26, 16, 97, 161, 0, 13, 26, 16, 122, 163, 0, 7, 4, 167, 0, 4, 3, 172]
abbrev dktX3_isLetter_0 : List UInt8 := dkwX3_isLetter_0 ++ []
theorem dksX3_isLetter_0 : cX3_isLetter.data.toList.drop 0 = dktX3_isLetter_0 := by decide +kernel
theorem dX3_isLetter_0 : decode cX3_isLetter 0 = .ok (.iload_n 0, 1) := dk_26 (dk_at dksX3_isLetter_0 0 rfl rfl)
theorem dX3_isLetter_1 : decode cX3_isLetter 1 = .ok (.bipush 97, 2) := dk_16 97 (dk_at dksX3_isLetter_0 1 rfl rfl)
theorem dX3_isLetter_3 : decode cX3_isLetter 3 = .ok (.if_icmp .lt 13, 3) := dk_161 0 13 (dk_at dksX3_isLetter_0 3 rfl rfl)
theorem dX3_isLetter_6 : decode cX3_isLetter 6 = .ok (.iload_n 0, 1) := dk_26 (dk_at dksX3_isLetter_0 6 rfl rfl)
theorem dX3_isLetter_7 : decode cX3_isLetter 7 = .ok (.bipush 122, 2) := dk_16 122 (dk_at dksX3_isLetter_0 7 rfl rfl)
theorem dX3_isLetter_9 : decode cX3_isLetter 9 = .ok (.if_icmp .gt 7, 3) := dk_163 0 7 (dk_at dksX3_isLetter_0 9 rfl rfl)
theorem dX3_isLetter_12 : decode cX3_isLetter 12 = .ok (.iconst 1, 1) := dk_4 (dk_at dksX3_isLetter_0 12 rfl rfl)
theorem dX3_isLetter_13 : decode cX3_isLetter 13 = .ok (.goto 4, 3) := dk_167 0 4 (dk_at dksX3_isLetter_0 13 rfl rfl)
theorem dX3_isLetter_16 : decode cX3_isLetter 16 = .ok (.iconst 0, 1) := dk_3 (dk_at dksX3_isLetter_0 16 rfl rfl)
theorem dX3_isLetter_17 : decode cX3_isLetter 17 = .ok (.ireturn, 1) := dk_172 (dk_at dksX3_isLetter_0 17 rfl rfl)
abbrev cX3_isDigit : ByteArray := prog_9_method_8_code
def yX3_isDigit : MethodName := ⟨RX3, "isDigit", "(I)Z"⟩
def dkwX3_isDigit_0 : List UInt8 := [26, 16, 48, 161, 0, 13, 26, 16, 57, 163, 0, 7, 4, 167, 0, 4, 3, 172]
abbrev dktX3_isDigit_0 : List UInt8 := dkwX3_isDigit_0 ++ []
theorem dksX3_isDigit_0 : cX3_isDigit.data.toList.drop 0 = dktX3_isDigit_0 := by decide +kernel
theorem dX3_isDigit_0 : decode cX3_isDigit 0 = .ok (.iload_n 0, 1) := dk_26 (dk_at dksX3_isDigit_0 0 rfl rfl)
theorem dX3_isDigit_1 : decode cX3_isDigit 1 = .ok (.bipush 48, 2) := dk_16 48 (dk_at dksX3_isDigit_0 1 rfl rfl)
theorem dX3_isDigit_3 : decode cX3_isDigit 3 = .ok (.if_icmp .lt 13, 3) := dk_161 0 13 (dk_at dksX3_isDigit_0 3 rfl rfl)
theorem dX3_isDigit_6 : decode cX3_isDigit 6 = .ok (.iload_n 0, 1) := dk_26 (dk_at dksX3_isDigit_0 6 rfl rfl)
theorem dX3_isDigit_7 : decode cX3_isDigit 7 = .ok (.bipush 57, 2) := dk_16 57 (dk_at dksX3_isDigit_0 7 rfl rfl)
theorem dX3_isDigit_9 : decode cX3_isDigit 9 = .ok (.if_icmp .gt 7, 3) := dk_163 0 7 (dk_at dksX3_isDigit_0 9 rfl rfl)
theorem dX3_isDigit_12 : decode cX3_isDigit 12 = .ok (.iconst 1, 1) := dk_4 (dk_at dksX3_isDigit_0 12 rfl rfl)
theorem dX3_isDigit_13 : decode cX3_isDigit 13 = .ok (.goto 4, 3) := dk_167 0 4 (dk_at dksX3_isDigit_0 13 rfl rfl)
theorem dX3_isDigit_16 : decode cX3_isDigit 16 = .ok (.iconst 0, 1) := dk_3 (dk_at dksX3_isDigit_0 16 rfl rfl)
theorem dX3_isDigit_17 : decode cX3_isDigit 17 = .ok (.ireturn, 1) := dk_172 (dk_at dksX3_isDigit_0 17 rfl rfl)
abbrev cX3_tapeAt : ByteArray := prog_9_method_7_code
def yX3_tapeAt : MethodName := ⟨RX3, "tapeAt", "(I)I"⟩
def dkwX3_tapeAt_0 : List UInt8 := [27, 42, 180, 0, 18, 162, 0, 12, 42, 180, 0, 7, 27, 46, 167, 0, 4, 3, 172]
abbrev dktX3_tapeAt_0 : List UInt8 := dkwX3_tapeAt_0 ++ []
theorem dksX3_tapeAt_0 : cX3_tapeAt.data.toList.drop 0 = dktX3_tapeAt_0 := by decide +kernel
theorem dX3_tapeAt_0 : decode cX3_tapeAt 0 = .ok (.iload_n 1, 1) := dk_27 (dk_at dksX3_tapeAt_0 0 rfl rfl)
theorem dX3_tapeAt_1 : decode cX3_tapeAt 1 = .ok (.aload_n 0, 1) := dk_42 (dk_at dksX3_tapeAt_0 1 rfl rfl)
theorem dX3_tapeAt_2 : decode cX3_tapeAt 2 = .ok (.getfield 18, 3) := dk_180 0 18 (dk_at dksX3_tapeAt_0 2 rfl rfl)
theorem dX3_tapeAt_5 : decode cX3_tapeAt 5 = .ok (.if_icmp .ge 12, 3) := dk_162 0 12 (dk_at dksX3_tapeAt_0 5 rfl rfl)
theorem dX3_tapeAt_8 : decode cX3_tapeAt 8 = .ok (.aload_n 0, 1) := dk_42 (dk_at dksX3_tapeAt_0 8 rfl rfl)
theorem dX3_tapeAt_9 : decode cX3_tapeAt 9 = .ok (.getfield 7, 3) := dk_180 0 7 (dk_at dksX3_tapeAt_0 9 rfl rfl)
theorem dX3_tapeAt_12 : decode cX3_tapeAt 12 = .ok (.iload_n 1, 1) := dk_27 (dk_at dksX3_tapeAt_0 12 rfl rfl)
theorem dX3_tapeAt_13 : decode cX3_tapeAt 13 = .ok (.iaload, 1) := dk_46 (dk_at dksX3_tapeAt_0 13 rfl rfl)
theorem dX3_tapeAt_14 : decode cX3_tapeAt 14 = .ok (.goto 4, 3) := dk_167 0 4 (dk_at dksX3_tapeAt_0 14 rfl rfl)
theorem dX3_tapeAt_17 : decode cX3_tapeAt 17 = .ok (.iconst 0, 1) := dk_3 (dk_at dksX3_tapeAt_0 17 rfl rfl)
theorem dX3_tapeAt_18 : decode cX3_tapeAt 18 = .ok (.ireturn, 1) := dk_172 (dk_at dksX3_tapeAt_0 18 rfl rfl)
abbrev cX3_readWhole : ByteArray := prog_9_method_24_code
def yX3_readWhole : MethodName := ⟨RX3, "readWhole", "()Z"⟩
def dkwX3_readWhole_5 : List UInt8 := [167, 0, 4, 3, 172]
abbrev dktX3_readWhole_5 : List UInt8 := dkwX3_readWhole_5 ++ []
def dkwX3_readWhole_4 : List UInt8 := [96, 181, 0, 140, 167, 255, 217, 42, 180, 0, 27, 153, 0, 11, 42, 4, 182, 0, 99, 153, 0, 7, 4]
abbrev dktX3_readWhole_4 : List UInt8 := dkwX3_readWhole_4 ++ dktX3_readWhole_5
def dkwX3_readWhole_3 : List UInt8 := [184, 0, 116, 182, 0, 120, 153, 0, 25, 42, 182, 0, 146, 154, 0, 5, 3, 172, 42, 89, 180, 0, 140, 4]
abbrev dktX3_readWhole_3 : List UInt8 := dkwX3_readWhole_3 ++ dktX3_readWhole_4
def dkwX3_readWhole_2 : List UInt8 := [180, 0, 140, 4, 96, 181, 0, 140, 167, 255, 219, 42, 16, 115, 16, 104, 16, 105, 16, 102, 16, 116]
abbrev dktX3_readWhole_2 : List UInt8 := dkwX3_readWhole_2 ++ dktX3_readWhole_3
def dkwX3_readWhole_1 : List UInt8 := [16, 101, 16, 100, 184, 0, 58, 182, 0, 120, 153, 0, 25, 42, 182, 0, 143, 154, 0, 5, 3, 172, 42, 89]
abbrev dktX3_readWhole_1 : List UInt8 := dkwX3_readWhole_1 ++ dktX3_readWhole_2
def dkwX3_readWhole_0 : List UInt8 := [42, 182, 0, 137, 154, 0, 5, 3, 172, 42, 89, 180, 0, 140, 4, 96, 181, 0, 140, 42, 16, 110, 16, 101]
abbrev dktX3_readWhole_0 : List UInt8 := dkwX3_readWhole_0 ++ dktX3_readWhole_1
theorem dksX3_readWhole_0 : cX3_readWhole.data.toList.drop 0 = dktX3_readWhole_0 := by decide +kernel
theorem dksX3_readWhole_1 : cX3_readWhole.data.toList.drop 24 = dktX3_readWhole_1 := dk_seg dksX3_readWhole_0 24 rfl rfl
theorem dksX3_readWhole_2 : cX3_readWhole.data.toList.drop 48 = dktX3_readWhole_2 := dk_seg dksX3_readWhole_1 24 rfl rfl
theorem dksX3_readWhole_3 : cX3_readWhole.data.toList.drop 70 = dktX3_readWhole_3 := dk_seg dksX3_readWhole_2 22 rfl rfl
theorem dksX3_readWhole_4 : cX3_readWhole.data.toList.drop 94 = dktX3_readWhole_4 := dk_seg dksX3_readWhole_3 24 rfl rfl
theorem dksX3_readWhole_5 : cX3_readWhole.data.toList.drop 117 = dktX3_readWhole_5 := dk_seg dksX3_readWhole_4 23 rfl rfl
theorem dX3_readWhole_0 : decode cX3_readWhole 0 = .ok (.aload_n 0, 1) := dk_42 (dk_at dksX3_readWhole_0 0 rfl rfl)
theorem dX3_readWhole_1 : decode cX3_readWhole 1 = .ok (.invokevirtual 137, 3) := dk_182 0 137 (dk_at dksX3_readWhole_0 1 rfl rfl)
theorem dX3_readWhole_4 : decode cX3_readWhole 4 = .ok (.ifCond .ne 5, 3) := dk_154 0 5 (dk_at dksX3_readWhole_0 4 rfl rfl)
theorem dX3_readWhole_7 : decode cX3_readWhole 7 = .ok (.iconst 0, 1) := dk_3 (dk_at dksX3_readWhole_0 7 rfl rfl)
theorem dX3_readWhole_8 : decode cX3_readWhole 8 = .ok (.ireturn, 1) := dk_172 (dk_at dksX3_readWhole_0 8 rfl rfl)
theorem dX3_readWhole_9 : decode cX3_readWhole 9 = .ok (.aload_n 0, 1) := dk_42 (dk_at dksX3_readWhole_0 9 rfl rfl)
theorem dX3_readWhole_10 : decode cX3_readWhole 10 = .ok (.dup, 1) := dk_89 (dk_at dksX3_readWhole_0 10 rfl rfl)
theorem dX3_readWhole_11 : decode cX3_readWhole 11 = .ok (.getfield 140, 3) := dk_180 0 140 (dk_at dksX3_readWhole_0 11 rfl rfl)
theorem dX3_readWhole_14 : decode cX3_readWhole 14 = .ok (.iconst 1, 1) := dk_4 (dk_at dksX3_readWhole_0 14 rfl rfl)
theorem dX3_readWhole_15 : decode cX3_readWhole 15 = .ok (.iadd, 1) := dk_96 (dk_at dksX3_readWhole_0 15 rfl rfl)
theorem dX3_readWhole_16 : decode cX3_readWhole 16 = .ok (.putfield 140, 3) := dk_181 0 140 (dk_at dksX3_readWhole_0 16 rfl rfl)
theorem dX3_readWhole_19 : decode cX3_readWhole 19 = .ok (.aload_n 0, 1) := dk_42 (dk_at dksX3_readWhole_0 19 rfl rfl)
theorem dX3_readWhole_20 : decode cX3_readWhole 20 = .ok (.bipush 110, 2) := dk_16 110 (dk_at dksX3_readWhole_0 20 rfl rfl)
theorem dX3_readWhole_22 : decode cX3_readWhole 22 = .ok (.bipush 101, 2) := dk_16 101 (dk_at dksX3_readWhole_0 22 rfl rfl)
theorem dX3_readWhole_24 : decode cX3_readWhole 24 = .ok (.bipush 101, 2) := dk_16 101 (dk_at dksX3_readWhole_1 0 rfl rfl)
theorem dX3_readWhole_26 : decode cX3_readWhole 26 = .ok (.bipush 100, 2) := dk_16 100 (dk_at dksX3_readWhole_1 2 rfl rfl)
theorem dX3_readWhole_28 : decode cX3_readWhole 28 = .ok (.invokestatic 58, 3) := dk_184 0 58 (dk_at dksX3_readWhole_1 4 rfl rfl)
theorem dX3_readWhole_31 : decode cX3_readWhole 31 = .ok (.invokevirtual 120, 3) := dk_182 0 120 (dk_at dksX3_readWhole_1 7 rfl rfl)
theorem dX3_readWhole_34 : decode cX3_readWhole 34 = .ok (.ifCond .eq 25, 3) := dk_153 0 25 (dk_at dksX3_readWhole_1 10 rfl rfl)
theorem dX3_readWhole_37 : decode cX3_readWhole 37 = .ok (.aload_n 0, 1) := dk_42 (dk_at dksX3_readWhole_1 13 rfl rfl)
theorem dX3_readWhole_38 : decode cX3_readWhole 38 = .ok (.invokevirtual 143, 3) := dk_182 0 143 (dk_at dksX3_readWhole_1 14 rfl rfl)
theorem dX3_readWhole_41 : decode cX3_readWhole 41 = .ok (.ifCond .ne 5, 3) := dk_154 0 5 (dk_at dksX3_readWhole_1 17 rfl rfl)
theorem dX3_readWhole_44 : decode cX3_readWhole 44 = .ok (.iconst 0, 1) := dk_3 (dk_at dksX3_readWhole_1 20 rfl rfl)
theorem dX3_readWhole_45 : decode cX3_readWhole 45 = .ok (.ireturn, 1) := dk_172 (dk_at dksX3_readWhole_1 21 rfl rfl)
theorem dX3_readWhole_46 : decode cX3_readWhole 46 = .ok (.aload_n 0, 1) := dk_42 (dk_at dksX3_readWhole_1 22 rfl rfl)
theorem dX3_readWhole_47 : decode cX3_readWhole 47 = .ok (.dup, 1) := dk_89 (dk_at dksX3_readWhole_1 23 rfl rfl)
theorem dX3_readWhole_48 : decode cX3_readWhole 48 = .ok (.getfield 140, 3) := dk_180 0 140 (dk_at dksX3_readWhole_2 0 rfl rfl)
theorem dX3_readWhole_51 : decode cX3_readWhole 51 = .ok (.iconst 1, 1) := dk_4 (dk_at dksX3_readWhole_2 3 rfl rfl)
theorem dX3_readWhole_52 : decode cX3_readWhole 52 = .ok (.iadd, 1) := dk_96 (dk_at dksX3_readWhole_2 4 rfl rfl)
theorem dX3_readWhole_53 : decode cX3_readWhole 53 = .ok (.putfield 140, 3) := dk_181 0 140 (dk_at dksX3_readWhole_2 5 rfl rfl)
theorem dX3_readWhole_56 : decode cX3_readWhole 56 = .ok (.goto (-37), 3) := dk_167 255 219 (dk_at dksX3_readWhole_2 8 rfl rfl)
theorem dX3_readWhole_59 : decode cX3_readWhole 59 = .ok (.aload_n 0, 1) := dk_42 (dk_at dksX3_readWhole_2 11 rfl rfl)
theorem dX3_readWhole_60 : decode cX3_readWhole 60 = .ok (.bipush 115, 2) := dk_16 115 (dk_at dksX3_readWhole_2 12 rfl rfl)
theorem dX3_readWhole_62 : decode cX3_readWhole 62 = .ok (.bipush 104, 2) := dk_16 104 (dk_at dksX3_readWhole_2 14 rfl rfl)
theorem dX3_readWhole_64 : decode cX3_readWhole 64 = .ok (.bipush 105, 2) := dk_16 105 (dk_at dksX3_readWhole_2 16 rfl rfl)
theorem dX3_readWhole_66 : decode cX3_readWhole 66 = .ok (.bipush 102, 2) := dk_16 102 (dk_at dksX3_readWhole_2 18 rfl rfl)
theorem dX3_readWhole_68 : decode cX3_readWhole 68 = .ok (.bipush 116, 2) := dk_16 116 (dk_at dksX3_readWhole_2 20 rfl rfl)
theorem dX3_readWhole_70 : decode cX3_readWhole 70 = .ok (.invokestatic 116, 3) := dk_184 0 116 (dk_at dksX3_readWhole_3 0 rfl rfl)
theorem dX3_readWhole_73 : decode cX3_readWhole 73 = .ok (.invokevirtual 120, 3) := dk_182 0 120 (dk_at dksX3_readWhole_3 3 rfl rfl)
theorem dX3_readWhole_76 : decode cX3_readWhole 76 = .ok (.ifCond .eq 25, 3) := dk_153 0 25 (dk_at dksX3_readWhole_3 6 rfl rfl)
theorem dX3_readWhole_79 : decode cX3_readWhole 79 = .ok (.aload_n 0, 1) := dk_42 (dk_at dksX3_readWhole_3 9 rfl rfl)
theorem dX3_readWhole_80 : decode cX3_readWhole 80 = .ok (.invokevirtual 146, 3) := dk_182 0 146 (dk_at dksX3_readWhole_3 10 rfl rfl)
theorem dX3_readWhole_83 : decode cX3_readWhole 83 = .ok (.ifCond .ne 5, 3) := dk_154 0 5 (dk_at dksX3_readWhole_3 13 rfl rfl)
theorem dX3_readWhole_86 : decode cX3_readWhole 86 = .ok (.iconst 0, 1) := dk_3 (dk_at dksX3_readWhole_3 16 rfl rfl)
theorem dX3_readWhole_87 : decode cX3_readWhole 87 = .ok (.ireturn, 1) := dk_172 (dk_at dksX3_readWhole_3 17 rfl rfl)
theorem dX3_readWhole_88 : decode cX3_readWhole 88 = .ok (.aload_n 0, 1) := dk_42 (dk_at dksX3_readWhole_3 18 rfl rfl)
theorem dX3_readWhole_89 : decode cX3_readWhole 89 = .ok (.dup, 1) := dk_89 (dk_at dksX3_readWhole_3 19 rfl rfl)
theorem dX3_readWhole_90 : decode cX3_readWhole 90 = .ok (.getfield 140, 3) := dk_180 0 140 (dk_at dksX3_readWhole_3 20 rfl rfl)
theorem dX3_readWhole_93 : decode cX3_readWhole 93 = .ok (.iconst 1, 1) := dk_4 (dk_at dksX3_readWhole_3 23 rfl rfl)
theorem dX3_readWhole_94 : decode cX3_readWhole 94 = .ok (.iadd, 1) := dk_96 (dk_at dksX3_readWhole_4 0 rfl rfl)
theorem dX3_readWhole_95 : decode cX3_readWhole 95 = .ok (.putfield 140, 3) := dk_181 0 140 (dk_at dksX3_readWhole_4 1 rfl rfl)
theorem dX3_readWhole_98 : decode cX3_readWhole 98 = .ok (.goto (-39), 3) := dk_167 255 217 (dk_at dksX3_readWhole_4 4 rfl rfl)
theorem dX3_readWhole_101 : decode cX3_readWhole 101 = .ok (.aload_n 0, 1) := dk_42 (dk_at dksX3_readWhole_4 7 rfl rfl)
theorem dX3_readWhole_102 : decode cX3_readWhole 102 = .ok (.getfield 27, 3) := dk_180 0 27 (dk_at dksX3_readWhole_4 8 rfl rfl)
theorem dX3_readWhole_105 : decode cX3_readWhole 105 = .ok (.ifCond .eq 11, 3) := dk_153 0 11 (dk_at dksX3_readWhole_4 11 rfl rfl)
theorem dX3_readWhole_108 : decode cX3_readWhole 108 = .ok (.aload_n 0, 1) := dk_42 (dk_at dksX3_readWhole_4 14 rfl rfl)
theorem dX3_readWhole_109 : decode cX3_readWhole 109 = .ok (.iconst 1, 1) := dk_4 (dk_at dksX3_readWhole_4 15 rfl rfl)
theorem dX3_readWhole_110 : decode cX3_readWhole 110 = .ok (.invokevirtual 99, 3) := dk_182 0 99 (dk_at dksX3_readWhole_4 16 rfl rfl)
theorem dX3_readWhole_113 : decode cX3_readWhole 113 = .ok (.ifCond .eq 7, 3) := dk_153 0 7 (dk_at dksX3_readWhole_4 19 rfl rfl)
theorem dX3_readWhole_116 : decode cX3_readWhole 116 = .ok (.iconst 1, 1) := dk_4 (dk_at dksX3_readWhole_4 22 rfl rfl)
theorem dX3_readWhole_117 : decode cX3_readWhole 117 = .ok (.goto 4, 3) := dk_167 0 4 (dk_at dksX3_readWhole_5 0 rfl rfl)
theorem dX3_readWhole_120 : decode cX3_readWhole 120 = .ok (.iconst 0, 1) := dk_3 (dk_at dksX3_readWhole_5 3 rfl rfl)
theorem dX3_readWhole_121 : decode cX3_readWhole 121 = .ok (.ireturn, 1) := dk_172 (dk_at dksX3_readWhole_5 4 rfl rfl)
abbrev cX3_readPosts : ByteArray := prog_9_method_20_code
def yX3_readPosts : MethodName := ⟨RX3, "readPosts", "()Z"⟩
def dkwX3_readPosts_2 : List UInt8 := [182, 0, 124, 153, 0, 14, 42, 182, 0, 127, 153, 0, 7, 4, 167, 0, 4, 3, 172]
abbrev dktX3_readPosts_2 : List UInt8 := dkwX3_readPosts_2 ++ []
def dkwX3_readPosts_1 : List UInt8 := [182, 0, 99, 172, 42, 182, 0, 109, 42, 3, 4, 6, 182, 0, 124, 153, 0, 24, 42, 4, 4, 7]
abbrev dktX3_readPosts_1 : List UInt8 := dkwX3_readPosts_1 ++ dktX3_readPosts_2
def dkwX3_readPosts_0 : List UInt8 := [42, 16, 112, 16, 111, 16, 115, 16, 116, 16, 115, 184, 0, 116, 182, 0, 120, 154, 0, 9, 42, 4]
abbrev dktX3_readPosts_0 : List UInt8 := dkwX3_readPosts_0 ++ dktX3_readPosts_1
theorem dksX3_readPosts_0 : cX3_readPosts.data.toList.drop 0 = dktX3_readPosts_0 := by decide +kernel
theorem dksX3_readPosts_1 : cX3_readPosts.data.toList.drop 22 = dktX3_readPosts_1 := dk_seg dksX3_readPosts_0 22 rfl rfl
theorem dksX3_readPosts_2 : cX3_readPosts.data.toList.drop 44 = dktX3_readPosts_2 := dk_seg dksX3_readPosts_1 22 rfl rfl
theorem dX3_readPosts_0 : decode cX3_readPosts 0 = .ok (.aload_n 0, 1) := dk_42 (dk_at dksX3_readPosts_0 0 rfl rfl)
theorem dX3_readPosts_1 : decode cX3_readPosts 1 = .ok (.bipush 112, 2) := dk_16 112 (dk_at dksX3_readPosts_0 1 rfl rfl)
theorem dX3_readPosts_3 : decode cX3_readPosts 3 = .ok (.bipush 111, 2) := dk_16 111 (dk_at dksX3_readPosts_0 3 rfl rfl)
theorem dX3_readPosts_5 : decode cX3_readPosts 5 = .ok (.bipush 115, 2) := dk_16 115 (dk_at dksX3_readPosts_0 5 rfl rfl)
theorem dX3_readPosts_7 : decode cX3_readPosts 7 = .ok (.bipush 116, 2) := dk_16 116 (dk_at dksX3_readPosts_0 7 rfl rfl)
theorem dX3_readPosts_9 : decode cX3_readPosts 9 = .ok (.bipush 115, 2) := dk_16 115 (dk_at dksX3_readPosts_0 9 rfl rfl)
theorem dX3_readPosts_11 : decode cX3_readPosts 11 = .ok (.invokestatic 116, 3) := dk_184 0 116 (dk_at dksX3_readPosts_0 11 rfl rfl)
theorem dX3_readPosts_14 : decode cX3_readPosts 14 = .ok (.invokevirtual 120, 3) := dk_182 0 120 (dk_at dksX3_readPosts_0 14 rfl rfl)
theorem dX3_readPosts_17 : decode cX3_readPosts 17 = .ok (.ifCond .ne 9, 3) := dk_154 0 9 (dk_at dksX3_readPosts_0 17 rfl rfl)
theorem dX3_readPosts_20 : decode cX3_readPosts 20 = .ok (.aload_n 0, 1) := dk_42 (dk_at dksX3_readPosts_0 20 rfl rfl)
theorem dX3_readPosts_21 : decode cX3_readPosts 21 = .ok (.iconst 1, 1) := dk_4 (dk_at dksX3_readPosts_0 21 rfl rfl)
theorem dX3_readPosts_22 : decode cX3_readPosts 22 = .ok (.invokevirtual 99, 3) := dk_182 0 99 (dk_at dksX3_readPosts_1 0 rfl rfl)
theorem dX3_readPosts_25 : decode cX3_readPosts 25 = .ok (.ireturn, 1) := dk_172 (dk_at dksX3_readPosts_1 3 rfl rfl)
theorem dX3_readPosts_26 : decode cX3_readPosts 26 = .ok (.aload_n 0, 1) := dk_42 (dk_at dksX3_readPosts_1 4 rfl rfl)
theorem dX3_readPosts_27 : decode cX3_readPosts 27 = .ok (.invokevirtual 109, 3) := dk_182 0 109 (dk_at dksX3_readPosts_1 5 rfl rfl)
theorem dX3_readPosts_30 : decode cX3_readPosts 30 = .ok (.aload_n 0, 1) := dk_42 (dk_at dksX3_readPosts_1 8 rfl rfl)
theorem dX3_readPosts_31 : decode cX3_readPosts 31 = .ok (.iconst 0, 1) := dk_3 (dk_at dksX3_readPosts_1 9 rfl rfl)
theorem dX3_readPosts_32 : decode cX3_readPosts 32 = .ok (.iconst 1, 1) := dk_4 (dk_at dksX3_readPosts_1 10 rfl rfl)
theorem dX3_readPosts_33 : decode cX3_readPosts 33 = .ok (.iconst 3, 1) := dk_6 (dk_at dksX3_readPosts_1 11 rfl rfl)
theorem dX3_readPosts_34 : decode cX3_readPosts 34 = .ok (.invokevirtual 124, 3) := dk_182 0 124 (dk_at dksX3_readPosts_1 12 rfl rfl)
theorem dX3_readPosts_37 : decode cX3_readPosts 37 = .ok (.ifCond .eq 24, 3) := dk_153 0 24 (dk_at dksX3_readPosts_1 15 rfl rfl)
theorem dX3_readPosts_40 : decode cX3_readPosts 40 = .ok (.aload_n 0, 1) := dk_42 (dk_at dksX3_readPosts_1 18 rfl rfl)
theorem dX3_readPosts_41 : decode cX3_readPosts 41 = .ok (.iconst 1, 1) := dk_4 (dk_at dksX3_readPosts_1 19 rfl rfl)
theorem dX3_readPosts_42 : decode cX3_readPosts 42 = .ok (.iconst 1, 1) := dk_4 (dk_at dksX3_readPosts_1 20 rfl rfl)
theorem dX3_readPosts_43 : decode cX3_readPosts 43 = .ok (.iconst 4, 1) := dk_7 (dk_at dksX3_readPosts_1 21 rfl rfl)
theorem dX3_readPosts_44 : decode cX3_readPosts 44 = .ok (.invokevirtual 124, 3) := dk_182 0 124 (dk_at dksX3_readPosts_2 0 rfl rfl)
theorem dX3_readPosts_47 : decode cX3_readPosts 47 = .ok (.ifCond .eq 14, 3) := dk_153 0 14 (dk_at dksX3_readPosts_2 3 rfl rfl)
theorem dX3_readPosts_50 : decode cX3_readPosts 50 = .ok (.aload_n 0, 1) := dk_42 (dk_at dksX3_readPosts_2 6 rfl rfl)
theorem dX3_readPosts_51 : decode cX3_readPosts 51 = .ok (.invokevirtual 127, 3) := dk_182 0 127 (dk_at dksX3_readPosts_2 7 rfl rfl)
theorem dX3_readPosts_54 : decode cX3_readPosts 54 = .ok (.ifCond .eq 7, 3) := dk_153 0 7 (dk_at dksX3_readPosts_2 10 rfl rfl)
theorem dX3_readPosts_57 : decode cX3_readPosts 57 = .ok (.iconst 1, 1) := dk_4 (dk_at dksX3_readPosts_2 13 rfl rfl)
theorem dX3_readPosts_58 : decode cX3_readPosts 58 = .ok (.goto 4, 3) := dk_167 0 4 (dk_at dksX3_readPosts_2 14 rfl rfl)
theorem dX3_readPosts_61 : decode cX3_readPosts 61 = .ok (.iconst 0, 1) := dk_3 (dk_at dksX3_readPosts_2 17 rfl rfl)
theorem dX3_readPosts_62 : decode cX3_readPosts 62 = .ok (.ireturn, 1) := dk_172 (dk_at dksX3_readPosts_2 18 rfl rfl)
abbrev cX3_five : ByteArray := prog_9_method_13_code
def yX3_five : MethodName := ⟨RX3, "five", "(IIIII)J"⟩
def dkwX3_five_0 : List UInt8 := [20, 0, 48, 26, 27, 28, 29, 184, 0, 58, 105, 21, 4, 133, 97, 20, 0, 50, 101, 173]
abbrev dktX3_five_0 : List UInt8 := dkwX3_five_0 ++ []
theorem dksX3_five_0 : cX3_five.data.toList.drop 0 = dktX3_five_0 := by decide +kernel
theorem dX3_five_0 : decode cX3_five 0 = .ok (.ldc2_w 48, 3) := dk_20 0 48 (dk_at dksX3_five_0 0 rfl rfl)
theorem dX3_five_3 : decode cX3_five 3 = .ok (.iload_n 0, 1) := dk_26 (dk_at dksX3_five_0 3 rfl rfl)
theorem dX3_five_4 : decode cX3_five 4 = .ok (.iload_n 1, 1) := dk_27 (dk_at dksX3_five_0 4 rfl rfl)
theorem dX3_five_5 : decode cX3_five 5 = .ok (.iload_n 2, 1) := dk_28 (dk_at dksX3_five_0 5 rfl rfl)
theorem dX3_five_6 : decode cX3_five 6 = .ok (.iload_n 3, 1) := dk_29 (dk_at dksX3_five_0 6 rfl rfl)
theorem dX3_five_7 : decode cX3_five 7 = .ok (.invokestatic 58, 3) := dk_184 0 58 (dk_at dksX3_five_0 7 rfl rfl)
theorem dX3_five_10 : decode cX3_five 10 = .ok (.lmul, 1) := dk_105 (dk_at dksX3_five_0 10 rfl rfl)
theorem dX3_five_11 : decode cX3_five 11 = .ok (.iload 4, 2) := dk_21 4 (dk_at dksX3_five_0 11 rfl rfl)
theorem dX3_five_13 : decode cX3_five 13 = .ok (.i2l, 1) := dk_133 (dk_at dksX3_five_0 13 rfl rfl)
theorem dX3_five_14 : decode cX3_five 14 = .ok (.ladd, 1) := dk_97 (dk_at dksX3_five_0 14 rfl rfl)
theorem dX3_five_15 : decode cX3_five 15 = .ok (.ldc2_w 50, 3) := dk_20 0 50 (dk_at dksX3_five_0 15 rfl rfl)
theorem dX3_five_18 : decode cX3_five 18 = .ok (.lsub, 1) := dk_101 (dk_at dksX3_five_0 18 rfl rfl)
theorem dX3_five_19 : decode cX3_five 19 = .ok (.lreturn, 1) := dk_173 (dk_at dksX3_five_0 19 rfl rfl)
abbrev cX3_four : ByteArray := prog_9_method_12_code
def yX3_four : MethodName := ⟨RX3, "four", "(IIII)J"⟩
def dkwX3_four_0 : List UInt8 := [20, 0, 52, 26, 27, 184, 0, 54, 105, 28, 29, 184, 0, 54, 97, 173]
abbrev dktX3_four_0 : List UInt8 := dkwX3_four_0 ++ []
theorem dksX3_four_0 : cX3_four.data.toList.drop 0 = dktX3_four_0 := by decide +kernel
theorem dX3_four_0 : decode cX3_four 0 = .ok (.ldc2_w 52, 3) := dk_20 0 52 (dk_at dksX3_four_0 0 rfl rfl)
theorem dX3_four_3 : decode cX3_four 3 = .ok (.iload_n 0, 1) := dk_26 (dk_at dksX3_four_0 3 rfl rfl)
theorem dX3_four_4 : decode cX3_four 4 = .ok (.iload_n 1, 1) := dk_27 (dk_at dksX3_four_0 4 rfl rfl)
theorem dX3_four_5 : decode cX3_four 5 = .ok (.invokestatic 54, 3) := dk_184 0 54 (dk_at dksX3_four_0 5 rfl rfl)
theorem dX3_four_8 : decode cX3_four 8 = .ok (.lmul, 1) := dk_105 (dk_at dksX3_four_0 8 rfl rfl)
theorem dX3_four_9 : decode cX3_four 9 = .ok (.iload_n 2, 1) := dk_28 (dk_at dksX3_four_0 9 rfl rfl)
theorem dX3_four_10 : decode cX3_four 10 = .ok (.iload_n 3, 1) := dk_29 (dk_at dksX3_four_0 10 rfl rfl)
theorem dX3_four_11 : decode cX3_four 11 = .ok (.invokestatic 54, 3) := dk_184 0 54 (dk_at dksX3_four_0 11 rfl rfl)
theorem dX3_four_14 : decode cX3_four 14 = .ok (.ladd, 1) := dk_97 (dk_at dksX3_four_0 14 rfl rfl)
theorem dX3_four_15 : decode cX3_four 15 = .ok (.lreturn, 1) := dk_173 (dk_at dksX3_four_0 15 rfl rfl)
abbrev cX3_two : ByteArray := prog_9_method_11_code
def yX3_two : MethodName := ⟨RX3, "two", "(II)J"⟩
def dkwX3_two_0 : List UInt8 := [20, 0, 48, 26, 133, 20, 0, 50, 101, 105, 27, 133, 97, 20, 0, 50, 101, 173]
abbrev dktX3_two_0 : List UInt8 := dkwX3_two_0 ++ []
theorem dksX3_two_0 : cX3_two.data.toList.drop 0 = dktX3_two_0 := by decide +kernel
theorem dX3_two_0 : decode cX3_two 0 = .ok (.ldc2_w 48, 3) := dk_20 0 48 (dk_at dksX3_two_0 0 rfl rfl)
theorem dX3_two_3 : decode cX3_two 3 = .ok (.iload_n 0, 1) := dk_26 (dk_at dksX3_two_0 3 rfl rfl)
theorem dX3_two_4 : decode cX3_two 4 = .ok (.i2l, 1) := dk_133 (dk_at dksX3_two_0 4 rfl rfl)
theorem dX3_two_5 : decode cX3_two 5 = .ok (.ldc2_w 50, 3) := dk_20 0 50 (dk_at dksX3_two_0 5 rfl rfl)
theorem dX3_two_8 : decode cX3_two 8 = .ok (.lsub, 1) := dk_101 (dk_at dksX3_two_0 8 rfl rfl)
theorem dX3_two_9 : decode cX3_two 9 = .ok (.lmul, 1) := dk_105 (dk_at dksX3_two_0 9 rfl rfl)
theorem dX3_two_10 : decode cX3_two 10 = .ok (.iload_n 1, 1) := dk_27 (dk_at dksX3_two_0 10 rfl rfl)
theorem dX3_two_11 : decode cX3_two 11 = .ok (.i2l, 1) := dk_133 (dk_at dksX3_two_0 11 rfl rfl)
theorem dX3_two_12 : decode cX3_two 12 = .ok (.ladd, 1) := dk_97 (dk_at dksX3_two_0 12 rfl rfl)
theorem dX3_two_13 : decode cX3_two 13 = .ok (.ldc2_w 50, 3) := dk_20 0 50 (dk_at dksX3_two_0 13 rfl rfl)
theorem dX3_two_16 : decode cX3_two 16 = .ok (.lsub, 1) := dk_101 (dk_at dksX3_two_0 16 rfl rfl)
theorem dX3_two_17 : decode cX3_two 17 = .ok (.lreturn, 1) := dk_173 (dk_at dksX3_two_0 17 rfl rfl)
abbrev cX3_isWord : ByteArray := prog_9_method_14_code
def yX3_isWord : MethodName := ⟨RX3, "isWord", "(J)Z"⟩
def dkwX3_isWord_0 : List UInt8 := [42, 180, 0, 27, 5, 160, 0, 16, 42, 180, 0, 37, 31, 148, 154, 0, 7, 4, 167, 0, 4, 3, 172]
abbrev dktX3_isWord_0 : List UInt8 := dkwX3_isWord_0 ++ []
theorem dksX3_isWord_0 : cX3_isWord.data.toList.drop 0 = dktX3_isWord_0 := by decide +kernel
theorem dX3_isWord_0 : decode cX3_isWord 0 = .ok (.aload_n 0, 1) := dk_42 (dk_at dksX3_isWord_0 0 rfl rfl)
theorem dX3_isWord_1 : decode cX3_isWord 1 = .ok (.getfield 27, 3) := dk_180 0 27 (dk_at dksX3_isWord_0 1 rfl rfl)
theorem dX3_isWord_4 : decode cX3_isWord 4 = .ok (.iconst 2, 1) := dk_5 (dk_at dksX3_isWord_0 4 rfl rfl)
theorem dX3_isWord_5 : decode cX3_isWord 5 = .ok (.if_icmp .ne 16, 3) := dk_160 0 16 (dk_at dksX3_isWord_0 5 rfl rfl)
theorem dX3_isWord_8 : decode cX3_isWord 8 = .ok (.aload_n 0, 1) := dk_42 (dk_at dksX3_isWord_0 8 rfl rfl)
theorem dX3_isWord_9 : decode cX3_isWord 9 = .ok (.getfield 37, 3) := dk_180 0 37 (dk_at dksX3_isWord_0 9 rfl rfl)
theorem dX3_isWord_12 : decode cX3_isWord 12 = .ok (.lload_n 1, 1) := dk_31 (dk_at dksX3_isWord_0 12 rfl rfl)
theorem dX3_isWord_13 : decode cX3_isWord 13 = .ok (.lcmp, 1) := dk_148 (dk_at dksX3_isWord_0 13 rfl rfl)
theorem dX3_isWord_14 : decode cX3_isWord 14 = .ok (.ifCond .ne 7, 3) := dk_154 0 7 (dk_at dksX3_isWord_0 14 rfl rfl)
theorem dX3_isWord_17 : decode cX3_isWord 17 = .ok (.iconst 1, 1) := dk_4 (dk_at dksX3_isWord_0 17 rfl rfl)
theorem dX3_isWord_18 : decode cX3_isWord 18 = .ok (.goto 4, 3) := dk_167 0 4 (dk_at dksX3_isWord_0 18 rfl rfl)
theorem dX3_isWord_21 : decode cX3_isWord 21 = .ok (.iconst 0, 1) := dk_3 (dk_at dksX3_isWord_0 21 rfl rfl)
theorem dX3_isWord_22 : decode cX3_isWord 22 = .ok (.ireturn, 1) := dk_172 (dk_at dksX3_isWord_0 22 rfl rfl)
abbrev cX3_bad : ByteArray := prog_9_method_15_code
def yX3_bad : MethodName := ⟨RX3, "bad", "(I)Z"⟩
def dkwX3_bad_1 : List UInt8 := [181, 0, 65, 3, 172]
abbrev dktX3_bad_1 : List UInt8 := dkwX3_bad_1 ++ []
def dkwX3_bad_0 : List UInt8 := [42, 42, 180, 0, 27, 4, 160, 0, 7, 4, 167, 0, 4, 27, 181, 0, 62, 42, 42, 180, 0, 24]
abbrev dktX3_bad_0 : List UInt8 := dkwX3_bad_0 ++ dktX3_bad_1
theorem dksX3_bad_0 : cX3_bad.data.toList.drop 0 = dktX3_bad_0 := by decide +kernel
theorem dksX3_bad_1 : cX3_bad.data.toList.drop 22 = dktX3_bad_1 := dk_seg dksX3_bad_0 22 rfl rfl
theorem dX3_bad_0 : decode cX3_bad 0 = .ok (.aload_n 0, 1) := dk_42 (dk_at dksX3_bad_0 0 rfl rfl)
theorem dX3_bad_1 : decode cX3_bad 1 = .ok (.aload_n 0, 1) := dk_42 (dk_at dksX3_bad_0 1 rfl rfl)
theorem dX3_bad_2 : decode cX3_bad 2 = .ok (.getfield 27, 3) := dk_180 0 27 (dk_at dksX3_bad_0 2 rfl rfl)
theorem dX3_bad_5 : decode cX3_bad 5 = .ok (.iconst 1, 1) := dk_4 (dk_at dksX3_bad_0 5 rfl rfl)
theorem dX3_bad_6 : decode cX3_bad 6 = .ok (.if_icmp .ne 7, 3) := dk_160 0 7 (dk_at dksX3_bad_0 6 rfl rfl)
theorem dX3_bad_9 : decode cX3_bad 9 = .ok (.iconst 1, 1) := dk_4 (dk_at dksX3_bad_0 9 rfl rfl)
theorem dX3_bad_10 : decode cX3_bad 10 = .ok (.goto 4, 3) := dk_167 0 4 (dk_at dksX3_bad_0 10 rfl rfl)
theorem dX3_bad_13 : decode cX3_bad 13 = .ok (.iload_n 1, 1) := dk_27 (dk_at dksX3_bad_0 13 rfl rfl)
theorem dX3_bad_14 : decode cX3_bad 14 = .ok (.putfield 62, 3) := dk_181 0 62 (dk_at dksX3_bad_0 14 rfl rfl)
theorem dX3_bad_17 : decode cX3_bad 17 = .ok (.aload_n 0, 1) := dk_42 (dk_at dksX3_bad_0 17 rfl rfl)
theorem dX3_bad_18 : decode cX3_bad 18 = .ok (.aload_n 0, 1) := dk_42 (dk_at dksX3_bad_0 18 rfl rfl)
theorem dX3_bad_19 : decode cX3_bad 19 = .ok (.getfield 24, 3) := dk_180 0 24 (dk_at dksX3_bad_0 19 rfl rfl)
theorem dX3_bad_22 : decode cX3_bad 22 = .ok (.putfield 65, 3) := dk_181 0 65 (dk_at dksX3_bad_1 0 rfl rfl)
theorem dX3_bad_25 : decode cX3_bad 25 = .ok (.iconst 0, 1) := dk_3 (dk_at dksX3_bad_1 3 rfl rfl)
theorem dX3_bad_26 : decode cX3_bad 26 = .ok (.ireturn, 1) := dk_172 (dk_at dksX3_bad_1 4 rfl rfl)
abbrev cX3_told : ByteArray := prog_9_method_18_code
def yX3_told : MethodName := ⟨RX3, "told", "(III)Z"⟩
def dkwX3_told_0 : List UInt8 := [42, 28, 29, 182, 0, 112, 154, 0, 5, 3, 172, 42, 180, 0, 77, 27, 42, 180, 0, 106, 79, 4, 172]
abbrev dktX3_told_0 : List UInt8 := dkwX3_told_0 ++ []
theorem dksX3_told_0 : cX3_told.data.toList.drop 0 = dktX3_told_0 := by decide +kernel
theorem dX3_told_0 : decode cX3_told 0 = .ok (.aload_n 0, 1) := dk_42 (dk_at dksX3_told_0 0 rfl rfl)
theorem dX3_told_1 : decode cX3_told 1 = .ok (.iload_n 2, 1) := dk_28 (dk_at dksX3_told_0 1 rfl rfl)
theorem dX3_told_2 : decode cX3_told 2 = .ok (.iload_n 3, 1) := dk_29 (dk_at dksX3_told_0 2 rfl rfl)
theorem dX3_told_3 : decode cX3_told 3 = .ok (.invokevirtual 112, 3) := dk_182 0 112 (dk_at dksX3_told_0 3 rfl rfl)
theorem dX3_told_6 : decode cX3_told 6 = .ok (.ifCond .ne 5, 3) := dk_154 0 5 (dk_at dksX3_told_0 6 rfl rfl)
theorem dX3_told_9 : decode cX3_told 9 = .ok (.iconst 0, 1) := dk_3 (dk_at dksX3_told_0 9 rfl rfl)
theorem dX3_told_10 : decode cX3_told 10 = .ok (.ireturn, 1) := dk_172 (dk_at dksX3_told_0 10 rfl rfl)
theorem dX3_told_11 : decode cX3_told 11 = .ok (.aload_n 0, 1) := dk_42 (dk_at dksX3_told_0 11 rfl rfl)
theorem dX3_told_12 : decode cX3_told 12 = .ok (.getfield 77, 3) := dk_180 0 77 (dk_at dksX3_told_0 12 rfl rfl)
theorem dX3_told_15 : decode cX3_told 15 = .ok (.iload_n 1, 1) := dk_27 (dk_at dksX3_told_0 15 rfl rfl)
theorem dX3_told_16 : decode cX3_told 16 = .ok (.aload_n 0, 1) := dk_42 (dk_at dksX3_told_0 16 rfl rfl)
theorem dX3_told_17 : decode cX3_told 17 = .ok (.getfield 106, 3) := dk_180 0 106 (dk_at dksX3_told_0 17 rfl rfl)
theorem dX3_told_20 : decode cX3_told 20 = .ok (.iastore, 1) := dk_79 (dk_at dksX3_told_0 20 rfl rfl)
theorem dX3_told_21 : decode cX3_told 21 = .ok (.iconst 1, 1) := dk_4 (dk_at dksX3_told_0 21 rfl rfl)
theorem dX3_told_22 : decode cX3_told 22 = .ok (.ireturn, 1) := dk_172 (dk_at dksX3_told_0 22 rfl rfl)
abbrev cX3_takes : ByteArray := prog_9_method_17_code
def yX3_takes : MethodName := ⟨RX3, "takes", "(II)Z"⟩
def dkwX3_takes_1 : List UInt8 := [154, 0, 9, 42, 5, 182, 0, 99, 172, 42, 42, 180, 0, 41, 181, 0, 106, 42, 182, 0, 109, 4, 172]
abbrev dktX3_takes_1 : List UInt8 := dkwX3_takes_1 ++ []
def dkwX3_takes_0 : List UInt8 := [42, 180, 0, 27, 6, 159, 0, 9, 42, 4, 182, 0, 99, 172, 42, 180, 0, 41, 27, 28, 184, 0, 102]
abbrev dktX3_takes_0 : List UInt8 := dkwX3_takes_0 ++ dktX3_takes_1
theorem dksX3_takes_0 : cX3_takes.data.toList.drop 0 = dktX3_takes_0 := by decide +kernel
theorem dksX3_takes_1 : cX3_takes.data.toList.drop 23 = dktX3_takes_1 := dk_seg dksX3_takes_0 23 rfl rfl
theorem dX3_takes_0 : decode cX3_takes 0 = .ok (.aload_n 0, 1) := dk_42 (dk_at dksX3_takes_0 0 rfl rfl)
theorem dX3_takes_1 : decode cX3_takes 1 = .ok (.getfield 27, 3) := dk_180 0 27 (dk_at dksX3_takes_0 1 rfl rfl)
theorem dX3_takes_4 : decode cX3_takes 4 = .ok (.iconst 3, 1) := dk_6 (dk_at dksX3_takes_0 4 rfl rfl)
theorem dX3_takes_5 : decode cX3_takes 5 = .ok (.if_icmp .eq 9, 3) := dk_159 0 9 (dk_at dksX3_takes_0 5 rfl rfl)
theorem dX3_takes_8 : decode cX3_takes 8 = .ok (.aload_n 0, 1) := dk_42 (dk_at dksX3_takes_0 8 rfl rfl)
theorem dX3_takes_9 : decode cX3_takes 9 = .ok (.iconst 1, 1) := dk_4 (dk_at dksX3_takes_0 9 rfl rfl)
theorem dX3_takes_10 : decode cX3_takes 10 = .ok (.invokevirtual 99, 3) := dk_182 0 99 (dk_at dksX3_takes_0 10 rfl rfl)
theorem dX3_takes_13 : decode cX3_takes 13 = .ok (.ireturn, 1) := dk_172 (dk_at dksX3_takes_0 13 rfl rfl)
theorem dX3_takes_14 : decode cX3_takes 14 = .ok (.aload_n 0, 1) := dk_42 (dk_at dksX3_takes_0 14 rfl rfl)
theorem dX3_takes_15 : decode cX3_takes 15 = .ok (.getfield 41, 3) := dk_180 0 41 (dk_at dksX3_takes_0 15 rfl rfl)
theorem dX3_takes_18 : decode cX3_takes 18 = .ok (.iload_n 1, 1) := dk_27 (dk_at dksX3_takes_0 18 rfl rfl)
theorem dX3_takes_19 : decode cX3_takes 19 = .ok (.iload_n 2, 1) := dk_28 (dk_at dksX3_takes_0 19 rfl rfl)
theorem dX3_takes_20 : decode cX3_takes 20 = .ok (.invokestatic 102, 3) := dk_184 0 102 (dk_at dksX3_takes_0 20 rfl rfl)
theorem dX3_takes_23 : decode cX3_takes 23 = .ok (.ifCond .ne 9, 3) := dk_154 0 9 (dk_at dksX3_takes_1 0 rfl rfl)
theorem dX3_takes_26 : decode cX3_takes 26 = .ok (.aload_n 0, 1) := dk_42 (dk_at dksX3_takes_1 3 rfl rfl)
theorem dX3_takes_27 : decode cX3_takes 27 = .ok (.iconst 2, 1) := dk_5 (dk_at dksX3_takes_1 4 rfl rfl)
theorem dX3_takes_28 : decode cX3_takes 28 = .ok (.invokevirtual 99, 3) := dk_182 0 99 (dk_at dksX3_takes_1 5 rfl rfl)
theorem dX3_takes_31 : decode cX3_takes 31 = .ok (.ireturn, 1) := dk_172 (dk_at dksX3_takes_1 8 rfl rfl)
theorem dX3_takes_32 : decode cX3_takes 32 = .ok (.aload_n 0, 1) := dk_42 (dk_at dksX3_takes_1 9 rfl rfl)
theorem dX3_takes_33 : decode cX3_takes 33 = .ok (.aload_n 0, 1) := dk_42 (dk_at dksX3_takes_1 10 rfl rfl)
theorem dX3_takes_34 : decode cX3_takes 34 = .ok (.getfield 41, 3) := dk_180 0 41 (dk_at dksX3_takes_1 11 rfl rfl)
theorem dX3_takes_37 : decode cX3_takes 37 = .ok (.putfield 106, 3) := dk_181 0 106 (dk_at dksX3_takes_1 14 rfl rfl)
theorem dX3_takes_40 : decode cX3_takes 40 = .ok (.aload_n 0, 1) := dk_42 (dk_at dksX3_takes_1 17 rfl rfl)
theorem dX3_takes_41 : decode cX3_takes 41 = .ok (.invokevirtual 109, 3) := dk_182 0 109 (dk_at dksX3_takes_1 18 rfl rfl)
theorem dX3_takes_44 : decode cX3_takes 44 = .ok (.iconst 1, 1) := dk_4 (dk_at dksX3_takes_1 21 rfl rfl)
theorem dX3_takes_45 : decode cX3_takes 45 = .ok (.ireturn, 1) := dk_172 (dk_at dksX3_takes_1 22 rfl rfl)
abbrev cX3_isIn : ByteArray := prog_9_method_3_code
def yX3_isIn : MethodName := ⟨RX3, "isIn", "(III)Z"⟩
def dkwX3_isIn_0 : List UInt8 := [26, 27, 161, 0, 12, 26, 28, 163, 0, 7, 4, 167, 0, 4, 3, 172]
abbrev dktX3_isIn_0 : List UInt8 := dkwX3_isIn_0 ++ []
theorem dksX3_isIn_0 : cX3_isIn.data.toList.drop 0 = dktX3_isIn_0 := by decide +kernel
theorem dX3_isIn_0 : decode cX3_isIn 0 = .ok (.iload_n 0, 1) := dk_26 (dk_at dksX3_isIn_0 0 rfl rfl)
theorem dX3_isIn_1 : decode cX3_isIn 1 = .ok (.iload_n 1, 1) := dk_27 (dk_at dksX3_isIn_0 1 rfl rfl)
theorem dX3_isIn_2 : decode cX3_isIn 2 = .ok (.if_icmp .lt 12, 3) := dk_161 0 12 (dk_at dksX3_isIn_0 2 rfl rfl)
theorem dX3_isIn_5 : decode cX3_isIn 5 = .ok (.iload_n 0, 1) := dk_26 (dk_at dksX3_isIn_0 5 rfl rfl)
theorem dX3_isIn_6 : decode cX3_isIn 6 = .ok (.iload_n 2, 1) := dk_28 (dk_at dksX3_isIn_0 6 rfl rfl)
theorem dX3_isIn_7 : decode cX3_isIn 7 = .ok (.if_icmp .gt 7, 3) := dk_163 0 7 (dk_at dksX3_isIn_0 7 rfl rfl)
theorem dX3_isIn_10 : decode cX3_isIn 10 = .ok (.iconst 1, 1) := dk_4 (dk_at dksX3_isIn_0 10 rfl rfl)
theorem dX3_isIn_11 : decode cX3_isIn 11 = .ok (.goto 4, 3) := dk_167 0 4 (dk_at dksX3_isIn_0 11 rfl rfl)
theorem dX3_isIn_14 : decode cX3_isIn 14 = .ok (.iconst 0, 1) := dk_3 (dk_at dksX3_isIn_0 14 rfl rfl)
theorem dX3_isIn_15 : decode cX3_isIn 15 = .ok (.ireturn, 1) := dk_172 (dk_at dksX3_isIn_0 15 rfl rfl)
abbrev cX3_readEnd : ByteArray := prog_9_method_19_code
def yX3_readEnd : MethodName := ⟨RX3, "readEnd", "()Z"⟩
def dkwX3_readEnd_0 : List UInt8 := [42, 180, 0, 27, 7, 159, 0, 9, 42, 4, 182, 0, 99, 172, 42, 182, 0, 109, 4, 172]
abbrev dktX3_readEnd_0 : List UInt8 := dkwX3_readEnd_0 ++ []
theorem dksX3_readEnd_0 : cX3_readEnd.data.toList.drop 0 = dktX3_readEnd_0 := by decide +kernel
theorem dX3_readEnd_0 : decode cX3_readEnd 0 = .ok (.aload_n 0, 1) := dk_42 (dk_at dksX3_readEnd_0 0 rfl rfl)
theorem dX3_readEnd_1 : decode cX3_readEnd 1 = .ok (.getfield 27, 3) := dk_180 0 27 (dk_at dksX3_readEnd_0 1 rfl rfl)
theorem dX3_readEnd_4 : decode cX3_readEnd 4 = .ok (.iconst 4, 1) := dk_7 (dk_at dksX3_readEnd_0 4 rfl rfl)
theorem dX3_readEnd_5 : decode cX3_readEnd 5 = .ok (.if_icmp .eq 9, 3) := dk_159 0 9 (dk_at dksX3_readEnd_0 5 rfl rfl)
theorem dX3_readEnd_8 : decode cX3_readEnd 8 = .ok (.aload_n 0, 1) := dk_42 (dk_at dksX3_readEnd_0 8 rfl rfl)
theorem dX3_readEnd_9 : decode cX3_readEnd 9 = .ok (.iconst 1, 1) := dk_4 (dk_at dksX3_readEnd_0 9 rfl rfl)
theorem dX3_readEnd_10 : decode cX3_readEnd 10 = .ok (.invokevirtual 99, 3) := dk_182 0 99 (dk_at dksX3_readEnd_0 10 rfl rfl)
theorem dX3_readEnd_13 : decode cX3_readEnd 13 = .ok (.ireturn, 1) := dk_172 (dk_at dksX3_readEnd_0 13 rfl rfl)
theorem dX3_readEnd_14 : decode cX3_readEnd 14 = .ok (.aload_n 0, 1) := dk_42 (dk_at dksX3_readEnd_0 14 rfl rfl)
theorem dX3_readEnd_15 : decode cX3_readEnd 15 = .ok (.invokevirtual 109, 3) := dk_182 0 109 (dk_at dksX3_readEnd_0 15 rfl rfl)
theorem dX3_readEnd_18 : decode cX3_readEnd 18 = .ok (.iconst 1, 1) := dk_4 (dk_at dksX3_readEnd_0 18 rfl rfl)
theorem dX3_readEnd_19 : decode cX3_readEnd 19 = .ok (.ireturn, 1) := dk_172 (dk_at dksX3_readEnd_0 19 rfl rfl)
abbrev cX3_readNeed : ByteArray := prog_9_method_21_code
def yX3_readNeed : MethodName := ⟨RX3, "readNeed", "()Z"⟩
def dkwX3_readNeed_5 : List UInt8 := [132, 4, 1, 167, 255, 226, 42, 89, 180, 0, 131, 4, 96, 181, 0, 131, 42, 182, 0, 127, 172]
abbrev dktX3_readNeed_5 : List UInt8 := dkwX3_readNeed_5 ++ []
def dkwX3_readNeed_4 : List UInt8 := [163, 0, 30, 42, 180, 0, 77, 7, 16, 48, 27, 104, 96, 21, 4, 96, 92, 46, 42, 180, 0, 106, 96, 79]
abbrev dktX3_readNeed_4 : List UInt8 := dkwX3_readNeed_4 ++ dktX3_readNeed_5
def dkwX3_readNeed_3 : List UInt8 := [172, 42, 180, 0, 106, 62, 42, 3, 16, 9, 182, 0, 112, 154, 0, 5, 3, 172, 28, 54, 4, 21, 4, 29]
abbrev dktX3_readNeed_3 : List UInt8 := dkwX3_readNeed_3 ++ dktX3_readNeed_4
def dkwX3_readNeed_2 : List UInt8 := [182, 0, 112, 154, 0, 5, 3, 172, 42, 180, 0, 106, 61, 42, 28, 16, 47, 182, 0, 112, 154, 0, 5, 3]
abbrev dktX3_readNeed_2 : List UInt8 := dkwX3_readNeed_2 ++ dktX3_readNeed_3
def dkwX3_readNeed_1 : List UInt8 := [180, 0, 77, 3, 46, 4, 100, 182, 0, 112, 154, 0, 5, 3, 172, 42, 180, 0, 106, 60, 42, 3, 16, 47]
abbrev dktX3_readNeed_1 : List UInt8 := dkwX3_readNeed_1 ++ dktX3_readNeed_2
def dkwX3_readNeed_0 : List UInt8 := [42, 180, 0, 131, 16, 10, 160, 0, 9, 42, 6, 182, 0, 99, 172, 42, 182, 0, 109, 42, 3, 42]
abbrev dktX3_readNeed_0 : List UInt8 := dkwX3_readNeed_0 ++ dktX3_readNeed_1
theorem dksX3_readNeed_0 : cX3_readNeed.data.toList.drop 0 = dktX3_readNeed_0 := by decide +kernel
theorem dksX3_readNeed_1 : cX3_readNeed.data.toList.drop 22 = dktX3_readNeed_1 := dk_seg dksX3_readNeed_0 22 rfl rfl
theorem dksX3_readNeed_2 : cX3_readNeed.data.toList.drop 46 = dktX3_readNeed_2 := dk_seg dksX3_readNeed_1 24 rfl rfl
theorem dksX3_readNeed_3 : cX3_readNeed.data.toList.drop 70 = dktX3_readNeed_3 := dk_seg dksX3_readNeed_2 24 rfl rfl
theorem dksX3_readNeed_4 : cX3_readNeed.data.toList.drop 94 = dktX3_readNeed_4 := dk_seg dksX3_readNeed_3 24 rfl rfl
theorem dksX3_readNeed_5 : cX3_readNeed.data.toList.drop 118 = dktX3_readNeed_5 := dk_seg dksX3_readNeed_4 24 rfl rfl
theorem dX3_readNeed_0 : decode cX3_readNeed 0 = .ok (.aload_n 0, 1) := dk_42 (dk_at dksX3_readNeed_0 0 rfl rfl)
theorem dX3_readNeed_1 : decode cX3_readNeed 1 = .ok (.getfield 131, 3) := dk_180 0 131 (dk_at dksX3_readNeed_0 1 rfl rfl)
theorem dX3_readNeed_4 : decode cX3_readNeed 4 = .ok (.bipush 10, 2) := dk_16 10 (dk_at dksX3_readNeed_0 4 rfl rfl)
theorem dX3_readNeed_6 : decode cX3_readNeed 6 = .ok (.if_icmp .ne 9, 3) := dk_160 0 9 (dk_at dksX3_readNeed_0 6 rfl rfl)
theorem dX3_readNeed_9 : decode cX3_readNeed 9 = .ok (.aload_n 0, 1) := dk_42 (dk_at dksX3_readNeed_0 9 rfl rfl)
theorem dX3_readNeed_10 : decode cX3_readNeed 10 = .ok (.iconst 3, 1) := dk_6 (dk_at dksX3_readNeed_0 10 rfl rfl)
theorem dX3_readNeed_11 : decode cX3_readNeed 11 = .ok (.invokevirtual 99, 3) := dk_182 0 99 (dk_at dksX3_readNeed_0 11 rfl rfl)
theorem dX3_readNeed_14 : decode cX3_readNeed 14 = .ok (.ireturn, 1) := dk_172 (dk_at dksX3_readNeed_0 14 rfl rfl)
theorem dX3_readNeed_15 : decode cX3_readNeed 15 = .ok (.aload_n 0, 1) := dk_42 (dk_at dksX3_readNeed_0 15 rfl rfl)
theorem dX3_readNeed_16 : decode cX3_readNeed 16 = .ok (.invokevirtual 109, 3) := dk_182 0 109 (dk_at dksX3_readNeed_0 16 rfl rfl)
theorem dX3_readNeed_19 : decode cX3_readNeed 19 = .ok (.aload_n 0, 1) := dk_42 (dk_at dksX3_readNeed_0 19 rfl rfl)
theorem dX3_readNeed_20 : decode cX3_readNeed 20 = .ok (.iconst 0, 1) := dk_3 (dk_at dksX3_readNeed_0 20 rfl rfl)
theorem dX3_readNeed_21 : decode cX3_readNeed 21 = .ok (.aload_n 0, 1) := dk_42 (dk_at dksX3_readNeed_0 21 rfl rfl)
theorem dX3_readNeed_22 : decode cX3_readNeed 22 = .ok (.getfield 77, 3) := dk_180 0 77 (dk_at dksX3_readNeed_1 0 rfl rfl)
theorem dX3_readNeed_25 : decode cX3_readNeed 25 = .ok (.iconst 0, 1) := dk_3 (dk_at dksX3_readNeed_1 3 rfl rfl)
theorem dX3_readNeed_26 : decode cX3_readNeed 26 = .ok (.iaload, 1) := dk_46 (dk_at dksX3_readNeed_1 4 rfl rfl)
theorem dX3_readNeed_27 : decode cX3_readNeed 27 = .ok (.iconst 1, 1) := dk_4 (dk_at dksX3_readNeed_1 5 rfl rfl)
theorem dX3_readNeed_28 : decode cX3_readNeed 28 = .ok (.isub, 1) := dk_100 (dk_at dksX3_readNeed_1 6 rfl rfl)
theorem dX3_readNeed_29 : decode cX3_readNeed 29 = .ok (.invokevirtual 112, 3) := dk_182 0 112 (dk_at dksX3_readNeed_1 7 rfl rfl)
theorem dX3_readNeed_32 : decode cX3_readNeed 32 = .ok (.ifCond .ne 5, 3) := dk_154 0 5 (dk_at dksX3_readNeed_1 10 rfl rfl)
theorem dX3_readNeed_35 : decode cX3_readNeed 35 = .ok (.iconst 0, 1) := dk_3 (dk_at dksX3_readNeed_1 13 rfl rfl)
theorem dX3_readNeed_36 : decode cX3_readNeed 36 = .ok (.ireturn, 1) := dk_172 (dk_at dksX3_readNeed_1 14 rfl rfl)
theorem dX3_readNeed_37 : decode cX3_readNeed 37 = .ok (.aload_n 0, 1) := dk_42 (dk_at dksX3_readNeed_1 15 rfl rfl)
theorem dX3_readNeed_38 : decode cX3_readNeed 38 = .ok (.getfield 106, 3) := dk_180 0 106 (dk_at dksX3_readNeed_1 16 rfl rfl)
theorem dX3_readNeed_41 : decode cX3_readNeed 41 = .ok (.istore_n 1, 1) := dk_60 (dk_at dksX3_readNeed_1 19 rfl rfl)
theorem dX3_readNeed_42 : decode cX3_readNeed 42 = .ok (.aload_n 0, 1) := dk_42 (dk_at dksX3_readNeed_1 20 rfl rfl)
theorem dX3_readNeed_43 : decode cX3_readNeed 43 = .ok (.iconst 0, 1) := dk_3 (dk_at dksX3_readNeed_1 21 rfl rfl)
theorem dX3_readNeed_44 : decode cX3_readNeed 44 = .ok (.bipush 47, 2) := dk_16 47 (dk_at dksX3_readNeed_1 22 rfl rfl)
theorem dX3_readNeed_46 : decode cX3_readNeed 46 = .ok (.invokevirtual 112, 3) := dk_182 0 112 (dk_at dksX3_readNeed_2 0 rfl rfl)
theorem dX3_readNeed_49 : decode cX3_readNeed 49 = .ok (.ifCond .ne 5, 3) := dk_154 0 5 (dk_at dksX3_readNeed_2 3 rfl rfl)
theorem dX3_readNeed_52 : decode cX3_readNeed 52 = .ok (.iconst 0, 1) := dk_3 (dk_at dksX3_readNeed_2 6 rfl rfl)
theorem dX3_readNeed_53 : decode cX3_readNeed 53 = .ok (.ireturn, 1) := dk_172 (dk_at dksX3_readNeed_2 7 rfl rfl)
theorem dX3_readNeed_54 : decode cX3_readNeed 54 = .ok (.aload_n 0, 1) := dk_42 (dk_at dksX3_readNeed_2 8 rfl rfl)
theorem dX3_readNeed_55 : decode cX3_readNeed 55 = .ok (.getfield 106, 3) := dk_180 0 106 (dk_at dksX3_readNeed_2 9 rfl rfl)
theorem dX3_readNeed_58 : decode cX3_readNeed 58 = .ok (.istore_n 2, 1) := dk_61 (dk_at dksX3_readNeed_2 12 rfl rfl)
theorem dX3_readNeed_59 : decode cX3_readNeed 59 = .ok (.aload_n 0, 1) := dk_42 (dk_at dksX3_readNeed_2 13 rfl rfl)
theorem dX3_readNeed_60 : decode cX3_readNeed 60 = .ok (.iload_n 2, 1) := dk_28 (dk_at dksX3_readNeed_2 14 rfl rfl)
theorem dX3_readNeed_61 : decode cX3_readNeed 61 = .ok (.bipush 47, 2) := dk_16 47 (dk_at dksX3_readNeed_2 15 rfl rfl)
theorem dX3_readNeed_63 : decode cX3_readNeed 63 = .ok (.invokevirtual 112, 3) := dk_182 0 112 (dk_at dksX3_readNeed_2 17 rfl rfl)
theorem dX3_readNeed_66 : decode cX3_readNeed 66 = .ok (.ifCond .ne 5, 3) := dk_154 0 5 (dk_at dksX3_readNeed_2 20 rfl rfl)
theorem dX3_readNeed_69 : decode cX3_readNeed 69 = .ok (.iconst 0, 1) := dk_3 (dk_at dksX3_readNeed_2 23 rfl rfl)
theorem dX3_readNeed_70 : decode cX3_readNeed 70 = .ok (.ireturn, 1) := dk_172 (dk_at dksX3_readNeed_3 0 rfl rfl)
theorem dX3_readNeed_71 : decode cX3_readNeed 71 = .ok (.aload_n 0, 1) := dk_42 (dk_at dksX3_readNeed_3 1 rfl rfl)
theorem dX3_readNeed_72 : decode cX3_readNeed 72 = .ok (.getfield 106, 3) := dk_180 0 106 (dk_at dksX3_readNeed_3 2 rfl rfl)
theorem dX3_readNeed_75 : decode cX3_readNeed 75 = .ok (.istore_n 3, 1) := dk_62 (dk_at dksX3_readNeed_3 5 rfl rfl)
theorem dX3_readNeed_76 : decode cX3_readNeed 76 = .ok (.aload_n 0, 1) := dk_42 (dk_at dksX3_readNeed_3 6 rfl rfl)
theorem dX3_readNeed_77 : decode cX3_readNeed 77 = .ok (.iconst 0, 1) := dk_3 (dk_at dksX3_readNeed_3 7 rfl rfl)
theorem dX3_readNeed_78 : decode cX3_readNeed 78 = .ok (.bipush 9, 2) := dk_16 9 (dk_at dksX3_readNeed_3 8 rfl rfl)
theorem dX3_readNeed_80 : decode cX3_readNeed 80 = .ok (.invokevirtual 112, 3) := dk_182 0 112 (dk_at dksX3_readNeed_3 10 rfl rfl)
theorem dX3_readNeed_83 : decode cX3_readNeed 83 = .ok (.ifCond .ne 5, 3) := dk_154 0 5 (dk_at dksX3_readNeed_3 13 rfl rfl)
theorem dX3_readNeed_86 : decode cX3_readNeed 86 = .ok (.iconst 0, 1) := dk_3 (dk_at dksX3_readNeed_3 16 rfl rfl)
theorem dX3_readNeed_87 : decode cX3_readNeed 87 = .ok (.ireturn, 1) := dk_172 (dk_at dksX3_readNeed_3 17 rfl rfl)
theorem dX3_readNeed_88 : decode cX3_readNeed 88 = .ok (.iload_n 2, 1) := dk_28 (dk_at dksX3_readNeed_3 18 rfl rfl)
theorem dX3_readNeed_89 : decode cX3_readNeed 89 = .ok (.istore 4, 2) := dk_54 4 (dk_at dksX3_readNeed_3 19 rfl rfl)
theorem dX3_readNeed_91 : decode cX3_readNeed 91 = .ok (.iload 4, 2) := dk_21 4 (dk_at dksX3_readNeed_3 21 rfl rfl)
theorem dX3_readNeed_93 : decode cX3_readNeed 93 = .ok (.iload_n 3, 1) := dk_29 (dk_at dksX3_readNeed_3 23 rfl rfl)
theorem dX3_readNeed_94 : decode cX3_readNeed 94 = .ok (.if_icmp .gt 30, 3) := dk_163 0 30 (dk_at dksX3_readNeed_4 0 rfl rfl)
theorem dX3_readNeed_97 : decode cX3_readNeed 97 = .ok (.aload_n 0, 1) := dk_42 (dk_at dksX3_readNeed_4 3 rfl rfl)
theorem dX3_readNeed_98 : decode cX3_readNeed 98 = .ok (.getfield 77, 3) := dk_180 0 77 (dk_at dksX3_readNeed_4 4 rfl rfl)
theorem dX3_readNeed_101 : decode cX3_readNeed 101 = .ok (.iconst 4, 1) := dk_7 (dk_at dksX3_readNeed_4 7 rfl rfl)
theorem dX3_readNeed_102 : decode cX3_readNeed 102 = .ok (.bipush 48, 2) := dk_16 48 (dk_at dksX3_readNeed_4 8 rfl rfl)
theorem dX3_readNeed_104 : decode cX3_readNeed 104 = .ok (.iload_n 1, 1) := dk_27 (dk_at dksX3_readNeed_4 10 rfl rfl)
theorem dX3_readNeed_105 : decode cX3_readNeed 105 = .ok (.imul, 1) := dk_104 (dk_at dksX3_readNeed_4 11 rfl rfl)
theorem dX3_readNeed_106 : decode cX3_readNeed 106 = .ok (.iadd, 1) := dk_96 (dk_at dksX3_readNeed_4 12 rfl rfl)
theorem dX3_readNeed_107 : decode cX3_readNeed 107 = .ok (.iload 4, 2) := dk_21 4 (dk_at dksX3_readNeed_4 13 rfl rfl)
theorem dX3_readNeed_109 : decode cX3_readNeed 109 = .ok (.iadd, 1) := dk_96 (dk_at dksX3_readNeed_4 15 rfl rfl)
theorem dX3_readNeed_110 : decode cX3_readNeed 110 = .ok (.dup2, 1) := dk_92 (dk_at dksX3_readNeed_4 16 rfl rfl)
theorem dX3_readNeed_111 : decode cX3_readNeed 111 = .ok (.iaload, 1) := dk_46 (dk_at dksX3_readNeed_4 17 rfl rfl)
theorem dX3_readNeed_112 : decode cX3_readNeed 112 = .ok (.aload_n 0, 1) := dk_42 (dk_at dksX3_readNeed_4 18 rfl rfl)
theorem dX3_readNeed_113 : decode cX3_readNeed 113 = .ok (.getfield 106, 3) := dk_180 0 106 (dk_at dksX3_readNeed_4 19 rfl rfl)
theorem dX3_readNeed_116 : decode cX3_readNeed 116 = .ok (.iadd, 1) := dk_96 (dk_at dksX3_readNeed_4 22 rfl rfl)
theorem dX3_readNeed_117 : decode cX3_readNeed 117 = .ok (.iastore, 1) := dk_79 (dk_at dksX3_readNeed_4 23 rfl rfl)
theorem dX3_readNeed_118 : decode cX3_readNeed 118 = .ok (.iinc 4 1, 3) := dk_132 4 1 (dk_at dksX3_readNeed_5 0 rfl rfl)
theorem dX3_readNeed_121 : decode cX3_readNeed 121 = .ok (.goto (-30), 3) := dk_167 255 226 (dk_at dksX3_readNeed_5 3 rfl rfl)
theorem dX3_readNeed_124 : decode cX3_readNeed 124 = .ok (.aload_n 0, 1) := dk_42 (dk_at dksX3_readNeed_5 6 rfl rfl)
theorem dX3_readNeed_125 : decode cX3_readNeed 125 = .ok (.dup, 1) := dk_89 (dk_at dksX3_readNeed_5 7 rfl rfl)
theorem dX3_readNeed_126 : decode cX3_readNeed 126 = .ok (.getfield 131, 3) := dk_180 0 131 (dk_at dksX3_readNeed_5 8 rfl rfl)
theorem dX3_readNeed_129 : decode cX3_readNeed 129 = .ok (.iconst 1, 1) := dk_4 (dk_at dksX3_readNeed_5 11 rfl rfl)
theorem dX3_readNeed_130 : decode cX3_readNeed 130 = .ok (.iadd, 1) := dk_96 (dk_at dksX3_readNeed_5 12 rfl rfl)
theorem dX3_readNeed_131 : decode cX3_readNeed 131 = .ok (.putfield 131, 3) := dk_181 0 131 (dk_at dksX3_readNeed_5 13 rfl rfl)
theorem dX3_readNeed_134 : decode cX3_readNeed 134 = .ok (.aload_n 0, 1) := dk_42 (dk_at dksX3_readNeed_5 16 rfl rfl)
theorem dX3_readNeed_135 : decode cX3_readNeed 135 = .ok (.invokevirtual 127, 3) := dk_182 0 127 (dk_at dksX3_readNeed_5 17 rfl rfl)
theorem dX3_readNeed_138 : decode cX3_readNeed 138 = .ok (.ireturn, 1) := dk_172 (dk_at dksX3_readNeed_5 20 rfl rfl)
abbrev cX3_readShift : ByteArray := prog_9_method_23_code
def yX3_readShift : MethodName := ⟨RX3, "readShift", "()Z"⟩
def dkwX3_readShift_6 : List UInt8 := [182, 0, 127, 172]
abbrev dktX3_readShift_6 : List UInt8 := dkwX3_readShift_6 ++ []
def dkwX3_readShift_5 : List UInt8 := [153, 0, 13, 42, 27, 182, 0, 134, 154, 255, 231, 3, 172, 42, 180, 0, 77, 5, 92, 46, 4, 96, 79, 42]
abbrev dktX3_readShift_5 : List UInt8 := dkwX3_readShift_5 ++ dktX3_readShift_6
def dkwX3_readShift_4 : List UInt8 := [42, 180, 0, 77, 6, 46, 79, 42, 16, 112, 16, 97, 16, 117, 16, 115, 16, 101, 184, 0, 116, 182, 0, 120]
abbrev dktX3_readShift_4 : List UInt8 := dkwX3_readShift_4 ++ dktX3_readShift_5
def dkwX3_readShift_3 : List UInt8 := [180, 0, 77, 27, 4, 96, 46, 16, 47, 182, 0, 124, 154, 0, 5, 3, 172, 42, 180, 0, 77, 27, 7, 96]
abbrev dktX3_readShift_3 : List UInt8 := dkwX3_readShift_3 ++ dktX3_readShift_4
def dkwX3_readShift_2 : List UInt8 := [182, 0, 124, 153, 0, 36, 42, 27, 4, 96, 3, 16, 47, 182, 0, 124, 153, 0, 23, 42, 27, 5, 96, 42]
abbrev dktX3_readShift_2 : List UInt8 := dkwX3_readShift_2 ++ dktX3_readShift_3
def dkwX3_readShift_1 : List UInt8 := [8, 42, 180, 0, 77, 5, 46, 104, 96, 60, 42, 27, 3, 96, 3, 42, 180, 0, 77, 3, 46, 4, 100]
abbrev dktX3_readShift_1 : List UInt8 := dkwX3_readShift_1 ++ dktX3_readShift_2
def dkwX3_readShift_0 : List UInt8 := [42, 180, 0, 77, 5, 46, 16, 8, 160, 0, 9, 42, 6, 182, 0, 99, 172, 42, 182, 0, 109, 17, 0, 148]
abbrev dktX3_readShift_0 : List UInt8 := dkwX3_readShift_0 ++ dktX3_readShift_1
theorem dksX3_readShift_0 : cX3_readShift.data.toList.drop 0 = dktX3_readShift_0 := by decide +kernel
theorem dksX3_readShift_1 : cX3_readShift.data.toList.drop 24 = dktX3_readShift_1 := dk_seg dksX3_readShift_0 24 rfl rfl
theorem dksX3_readShift_2 : cX3_readShift.data.toList.drop 47 = dktX3_readShift_2 := dk_seg dksX3_readShift_1 23 rfl rfl
theorem dksX3_readShift_3 : cX3_readShift.data.toList.drop 71 = dktX3_readShift_3 := dk_seg dksX3_readShift_2 24 rfl rfl
theorem dksX3_readShift_4 : cX3_readShift.data.toList.drop 95 = dktX3_readShift_4 := dk_seg dksX3_readShift_3 24 rfl rfl
theorem dksX3_readShift_5 : cX3_readShift.data.toList.drop 119 = dktX3_readShift_5 := dk_seg dksX3_readShift_4 24 rfl rfl
theorem dksX3_readShift_6 : cX3_readShift.data.toList.drop 143 = dktX3_readShift_6 := dk_seg dksX3_readShift_5 24 rfl rfl
theorem dX3_readShift_0 : decode cX3_readShift 0 = .ok (.aload_n 0, 1) := dk_42 (dk_at dksX3_readShift_0 0 rfl rfl)
theorem dX3_readShift_1 : decode cX3_readShift 1 = .ok (.getfield 77, 3) := dk_180 0 77 (dk_at dksX3_readShift_0 1 rfl rfl)
theorem dX3_readShift_4 : decode cX3_readShift 4 = .ok (.iconst 2, 1) := dk_5 (dk_at dksX3_readShift_0 4 rfl rfl)
theorem dX3_readShift_5 : decode cX3_readShift 5 = .ok (.iaload, 1) := dk_46 (dk_at dksX3_readShift_0 5 rfl rfl)
theorem dX3_readShift_6 : decode cX3_readShift 6 = .ok (.bipush 8, 2) := dk_16 8 (dk_at dksX3_readShift_0 6 rfl rfl)
theorem dX3_readShift_8 : decode cX3_readShift 8 = .ok (.if_icmp .ne 9, 3) := dk_160 0 9 (dk_at dksX3_readShift_0 8 rfl rfl)
theorem dX3_readShift_11 : decode cX3_readShift 11 = .ok (.aload_n 0, 1) := dk_42 (dk_at dksX3_readShift_0 11 rfl rfl)
theorem dX3_readShift_12 : decode cX3_readShift 12 = .ok (.iconst 3, 1) := dk_6 (dk_at dksX3_readShift_0 12 rfl rfl)
theorem dX3_readShift_13 : decode cX3_readShift 13 = .ok (.invokevirtual 99, 3) := dk_182 0 99 (dk_at dksX3_readShift_0 13 rfl rfl)
theorem dX3_readShift_16 : decode cX3_readShift 16 = .ok (.ireturn, 1) := dk_172 (dk_at dksX3_readShift_0 16 rfl rfl)
theorem dX3_readShift_17 : decode cX3_readShift 17 = .ok (.aload_n 0, 1) := dk_42 (dk_at dksX3_readShift_0 17 rfl rfl)
theorem dX3_readShift_18 : decode cX3_readShift 18 = .ok (.invokevirtual 109, 3) := dk_182 0 109 (dk_at dksX3_readShift_0 18 rfl rfl)
theorem dX3_readShift_21 : decode cX3_readShift 21 = .ok (.sipush 148, 3) := dk_17 0 148 (dk_at dksX3_readShift_0 21 rfl rfl)
theorem dX3_readShift_24 : decode cX3_readShift 24 = .ok (.iconst 5, 1) := dk_8 (dk_at dksX3_readShift_1 0 rfl rfl)
theorem dX3_readShift_25 : decode cX3_readShift 25 = .ok (.aload_n 0, 1) := dk_42 (dk_at dksX3_readShift_1 1 rfl rfl)
theorem dX3_readShift_26 : decode cX3_readShift 26 = .ok (.getfield 77, 3) := dk_180 0 77 (dk_at dksX3_readShift_1 2 rfl rfl)
theorem dX3_readShift_29 : decode cX3_readShift 29 = .ok (.iconst 2, 1) := dk_5 (dk_at dksX3_readShift_1 5 rfl rfl)
theorem dX3_readShift_30 : decode cX3_readShift 30 = .ok (.iaload, 1) := dk_46 (dk_at dksX3_readShift_1 6 rfl rfl)
theorem dX3_readShift_31 : decode cX3_readShift 31 = .ok (.imul, 1) := dk_104 (dk_at dksX3_readShift_1 7 rfl rfl)
theorem dX3_readShift_32 : decode cX3_readShift 32 = .ok (.iadd, 1) := dk_96 (dk_at dksX3_readShift_1 8 rfl rfl)
theorem dX3_readShift_33 : decode cX3_readShift 33 = .ok (.istore_n 1, 1) := dk_60 (dk_at dksX3_readShift_1 9 rfl rfl)
theorem dX3_readShift_34 : decode cX3_readShift 34 = .ok (.aload_n 0, 1) := dk_42 (dk_at dksX3_readShift_1 10 rfl rfl)
theorem dX3_readShift_35 : decode cX3_readShift 35 = .ok (.iload_n 1, 1) := dk_27 (dk_at dksX3_readShift_1 11 rfl rfl)
theorem dX3_readShift_36 : decode cX3_readShift 36 = .ok (.iconst 0, 1) := dk_3 (dk_at dksX3_readShift_1 12 rfl rfl)
theorem dX3_readShift_37 : decode cX3_readShift 37 = .ok (.iadd, 1) := dk_96 (dk_at dksX3_readShift_1 13 rfl rfl)
theorem dX3_readShift_38 : decode cX3_readShift 38 = .ok (.iconst 0, 1) := dk_3 (dk_at dksX3_readShift_1 14 rfl rfl)
theorem dX3_readShift_39 : decode cX3_readShift 39 = .ok (.aload_n 0, 1) := dk_42 (dk_at dksX3_readShift_1 15 rfl rfl)
theorem dX3_readShift_40 : decode cX3_readShift 40 = .ok (.getfield 77, 3) := dk_180 0 77 (dk_at dksX3_readShift_1 16 rfl rfl)
theorem dX3_readShift_43 : decode cX3_readShift 43 = .ok (.iconst 0, 1) := dk_3 (dk_at dksX3_readShift_1 19 rfl rfl)
theorem dX3_readShift_44 : decode cX3_readShift 44 = .ok (.iaload, 1) := dk_46 (dk_at dksX3_readShift_1 20 rfl rfl)
theorem dX3_readShift_45 : decode cX3_readShift 45 = .ok (.iconst 1, 1) := dk_4 (dk_at dksX3_readShift_1 21 rfl rfl)
theorem dX3_readShift_46 : decode cX3_readShift 46 = .ok (.isub, 1) := dk_100 (dk_at dksX3_readShift_1 22 rfl rfl)
theorem dX3_readShift_47 : decode cX3_readShift 47 = .ok (.invokevirtual 124, 3) := dk_182 0 124 (dk_at dksX3_readShift_2 0 rfl rfl)
theorem dX3_readShift_50 : decode cX3_readShift 50 = .ok (.ifCond .eq 36, 3) := dk_153 0 36 (dk_at dksX3_readShift_2 3 rfl rfl)
theorem dX3_readShift_53 : decode cX3_readShift 53 = .ok (.aload_n 0, 1) := dk_42 (dk_at dksX3_readShift_2 6 rfl rfl)
theorem dX3_readShift_54 : decode cX3_readShift 54 = .ok (.iload_n 1, 1) := dk_27 (dk_at dksX3_readShift_2 7 rfl rfl)
theorem dX3_readShift_55 : decode cX3_readShift 55 = .ok (.iconst 1, 1) := dk_4 (dk_at dksX3_readShift_2 8 rfl rfl)
theorem dX3_readShift_56 : decode cX3_readShift 56 = .ok (.iadd, 1) := dk_96 (dk_at dksX3_readShift_2 9 rfl rfl)
theorem dX3_readShift_57 : decode cX3_readShift 57 = .ok (.iconst 0, 1) := dk_3 (dk_at dksX3_readShift_2 10 rfl rfl)
theorem dX3_readShift_58 : decode cX3_readShift 58 = .ok (.bipush 47, 2) := dk_16 47 (dk_at dksX3_readShift_2 11 rfl rfl)
theorem dX3_readShift_60 : decode cX3_readShift 60 = .ok (.invokevirtual 124, 3) := dk_182 0 124 (dk_at dksX3_readShift_2 13 rfl rfl)
theorem dX3_readShift_63 : decode cX3_readShift 63 = .ok (.ifCond .eq 23, 3) := dk_153 0 23 (dk_at dksX3_readShift_2 16 rfl rfl)
theorem dX3_readShift_66 : decode cX3_readShift 66 = .ok (.aload_n 0, 1) := dk_42 (dk_at dksX3_readShift_2 19 rfl rfl)
theorem dX3_readShift_67 : decode cX3_readShift 67 = .ok (.iload_n 1, 1) := dk_27 (dk_at dksX3_readShift_2 20 rfl rfl)
theorem dX3_readShift_68 : decode cX3_readShift 68 = .ok (.iconst 2, 1) := dk_5 (dk_at dksX3_readShift_2 21 rfl rfl)
theorem dX3_readShift_69 : decode cX3_readShift 69 = .ok (.iadd, 1) := dk_96 (dk_at dksX3_readShift_2 22 rfl rfl)
theorem dX3_readShift_70 : decode cX3_readShift 70 = .ok (.aload_n 0, 1) := dk_42 (dk_at dksX3_readShift_2 23 rfl rfl)
theorem dX3_readShift_71 : decode cX3_readShift 71 = .ok (.getfield 77, 3) := dk_180 0 77 (dk_at dksX3_readShift_3 0 rfl rfl)
theorem dX3_readShift_74 : decode cX3_readShift 74 = .ok (.iload_n 1, 1) := dk_27 (dk_at dksX3_readShift_3 3 rfl rfl)
theorem dX3_readShift_75 : decode cX3_readShift 75 = .ok (.iconst 1, 1) := dk_4 (dk_at dksX3_readShift_3 4 rfl rfl)
theorem dX3_readShift_76 : decode cX3_readShift 76 = .ok (.iadd, 1) := dk_96 (dk_at dksX3_readShift_3 5 rfl rfl)
theorem dX3_readShift_77 : decode cX3_readShift 77 = .ok (.iaload, 1) := dk_46 (dk_at dksX3_readShift_3 6 rfl rfl)
theorem dX3_readShift_78 : decode cX3_readShift 78 = .ok (.bipush 47, 2) := dk_16 47 (dk_at dksX3_readShift_3 7 rfl rfl)
theorem dX3_readShift_80 : decode cX3_readShift 80 = .ok (.invokevirtual 124, 3) := dk_182 0 124 (dk_at dksX3_readShift_3 9 rfl rfl)
theorem dX3_readShift_83 : decode cX3_readShift 83 = .ok (.ifCond .ne 5, 3) := dk_154 0 5 (dk_at dksX3_readShift_3 12 rfl rfl)
theorem dX3_readShift_86 : decode cX3_readShift 86 = .ok (.iconst 0, 1) := dk_3 (dk_at dksX3_readShift_3 15 rfl rfl)
theorem dX3_readShift_87 : decode cX3_readShift 87 = .ok (.ireturn, 1) := dk_172 (dk_at dksX3_readShift_3 16 rfl rfl)
theorem dX3_readShift_88 : decode cX3_readShift 88 = .ok (.aload_n 0, 1) := dk_42 (dk_at dksX3_readShift_3 17 rfl rfl)
theorem dX3_readShift_89 : decode cX3_readShift 89 = .ok (.getfield 77, 3) := dk_180 0 77 (dk_at dksX3_readShift_3 18 rfl rfl)
theorem dX3_readShift_92 : decode cX3_readShift 92 = .ok (.iload_n 1, 1) := dk_27 (dk_at dksX3_readShift_3 21 rfl rfl)
theorem dX3_readShift_93 : decode cX3_readShift 93 = .ok (.iconst 4, 1) := dk_7 (dk_at dksX3_readShift_3 22 rfl rfl)
theorem dX3_readShift_94 : decode cX3_readShift 94 = .ok (.iadd, 1) := dk_96 (dk_at dksX3_readShift_3 23 rfl rfl)
theorem dX3_readShift_95 : decode cX3_readShift 95 = .ok (.aload_n 0, 1) := dk_42 (dk_at dksX3_readShift_4 0 rfl rfl)
theorem dX3_readShift_96 : decode cX3_readShift 96 = .ok (.getfield 77, 3) := dk_180 0 77 (dk_at dksX3_readShift_4 1 rfl rfl)
theorem dX3_readShift_99 : decode cX3_readShift 99 = .ok (.iconst 3, 1) := dk_6 (dk_at dksX3_readShift_4 4 rfl rfl)
theorem dX3_readShift_100 : decode cX3_readShift 100 = .ok (.iaload, 1) := dk_46 (dk_at dksX3_readShift_4 5 rfl rfl)
theorem dX3_readShift_101 : decode cX3_readShift 101 = .ok (.iastore, 1) := dk_79 (dk_at dksX3_readShift_4 6 rfl rfl)
theorem dX3_readShift_102 : decode cX3_readShift 102 = .ok (.aload_n 0, 1) := dk_42 (dk_at dksX3_readShift_4 7 rfl rfl)
theorem dX3_readShift_103 : decode cX3_readShift 103 = .ok (.bipush 112, 2) := dk_16 112 (dk_at dksX3_readShift_4 8 rfl rfl)
theorem dX3_readShift_105 : decode cX3_readShift 105 = .ok (.bipush 97, 2) := dk_16 97 (dk_at dksX3_readShift_4 10 rfl rfl)
theorem dX3_readShift_107 : decode cX3_readShift 107 = .ok (.bipush 117, 2) := dk_16 117 (dk_at dksX3_readShift_4 12 rfl rfl)
theorem dX3_readShift_109 : decode cX3_readShift 109 = .ok (.bipush 115, 2) := dk_16 115 (dk_at dksX3_readShift_4 14 rfl rfl)
theorem dX3_readShift_111 : decode cX3_readShift 111 = .ok (.bipush 101, 2) := dk_16 101 (dk_at dksX3_readShift_4 16 rfl rfl)
theorem dX3_readShift_113 : decode cX3_readShift 113 = .ok (.invokestatic 116, 3) := dk_184 0 116 (dk_at dksX3_readShift_4 18 rfl rfl)
theorem dX3_readShift_116 : decode cX3_readShift 116 = .ok (.invokevirtual 120, 3) := dk_182 0 120 (dk_at dksX3_readShift_4 21 rfl rfl)
theorem dX3_readShift_119 : decode cX3_readShift 119 = .ok (.ifCond .eq 13, 3) := dk_153 0 13 (dk_at dksX3_readShift_5 0 rfl rfl)
theorem dX3_readShift_122 : decode cX3_readShift 122 = .ok (.aload_n 0, 1) := dk_42 (dk_at dksX3_readShift_5 3 rfl rfl)
theorem dX3_readShift_123 : decode cX3_readShift 123 = .ok (.iload_n 1, 1) := dk_27 (dk_at dksX3_readShift_5 4 rfl rfl)
theorem dX3_readShift_124 : decode cX3_readShift 124 = .ok (.invokevirtual 134, 3) := dk_182 0 134 (dk_at dksX3_readShift_5 5 rfl rfl)
theorem dX3_readShift_127 : decode cX3_readShift 127 = .ok (.ifCond .ne (-25), 3) := dk_154 255 231 (dk_at dksX3_readShift_5 8 rfl rfl)
theorem dX3_readShift_130 : decode cX3_readShift 130 = .ok (.iconst 0, 1) := dk_3 (dk_at dksX3_readShift_5 11 rfl rfl)
theorem dX3_readShift_131 : decode cX3_readShift 131 = .ok (.ireturn, 1) := dk_172 (dk_at dksX3_readShift_5 12 rfl rfl)
theorem dX3_readShift_132 : decode cX3_readShift 132 = .ok (.aload_n 0, 1) := dk_42 (dk_at dksX3_readShift_5 13 rfl rfl)
theorem dX3_readShift_133 : decode cX3_readShift 133 = .ok (.getfield 77, 3) := dk_180 0 77 (dk_at dksX3_readShift_5 14 rfl rfl)
theorem dX3_readShift_136 : decode cX3_readShift 136 = .ok (.iconst 2, 1) := dk_5 (dk_at dksX3_readShift_5 17 rfl rfl)
theorem dX3_readShift_137 : decode cX3_readShift 137 = .ok (.dup2, 1) := dk_92 (dk_at dksX3_readShift_5 18 rfl rfl)
theorem dX3_readShift_138 : decode cX3_readShift 138 = .ok (.iaload, 1) := dk_46 (dk_at dksX3_readShift_5 19 rfl rfl)
theorem dX3_readShift_139 : decode cX3_readShift 139 = .ok (.iconst 1, 1) := dk_4 (dk_at dksX3_readShift_5 20 rfl rfl)
theorem dX3_readShift_140 : decode cX3_readShift 140 = .ok (.iadd, 1) := dk_96 (dk_at dksX3_readShift_5 21 rfl rfl)
theorem dX3_readShift_141 : decode cX3_readShift 141 = .ok (.iastore, 1) := dk_79 (dk_at dksX3_readShift_5 22 rfl rfl)
theorem dX3_readShift_142 : decode cX3_readShift 142 = .ok (.aload_n 0, 1) := dk_42 (dk_at dksX3_readShift_5 23 rfl rfl)
theorem dX3_readShift_143 : decode cX3_readShift 143 = .ok (.invokevirtual 127, 3) := dk_182 0 127 (dk_at dksX3_readShift_6 0 rfl rfl)
theorem dX3_readShift_146 : decode cX3_readShift 146 = .ok (.ireturn, 1) := dk_172 (dk_at dksX3_readShift_6 3 rfl rfl)
abbrev cX3_readPause : ByteArray := prog_9_method_22_code
def yX3_readPause : MethodName := ⟨RX3, "readPause", "(I)Z"⟩
def dkwX3_readPause_6 : List UInt8 := [79, 42, 180, 0, 77, 6, 92, 46, 4, 96, 79, 4, 172]
abbrev dktX3_readPause_6 : List UInt8 := dkwX3_readPause_6 ++ []
def dkwX3_readPause_5 : List UInt8 := [180, 0, 77, 28, 3, 96, 42, 180, 0, 77, 5, 46, 79, 42, 180, 0, 77, 27, 6, 96, 92, 46, 4, 96]
abbrev dktX3_readPause_5 : List UInt8 := dkwX3_readPause_5 ++ dktX3_readPause_6
def dkwX3_readPause_4 : List UInt8 := [96, 46, 42, 180, 0, 77, 28, 4, 96, 46, 100, 4, 96, 182, 0, 124, 154, 0, 5, 3, 172, 42]
abbrev dktX3_readPause_4 : List UInt8 := dkwX3_readPause_4 ++ dktX3_readPause_5
def dkwX3_readPause_3 : List UInt8 := [182, 0, 124, 153, 0, 40, 42, 28, 6, 96, 42, 180, 0, 77, 28, 5, 96, 46, 42, 180, 0, 77, 27, 5]
abbrev dktX3_readPause_3 : List UInt8 := dkwX3_readPause_3 ++ dktX3_readPause_4
def dkwX3_readPause_2 : List UInt8 := [153, 0, 66, 42, 28, 5, 96, 42, 180, 0, 77, 27, 4, 96, 46, 42, 180, 0, 77, 27, 5, 96, 46]
abbrev dktX3_readPause_2 : List UInt8 := dkwX3_readPause_2 ++ dktX3_readPause_3
def dkwX3_readPause_1 : List UInt8 := [17, 0, 188, 8, 42, 180, 0, 77, 6, 46, 104, 96, 61, 42, 28, 4, 96, 4, 7, 182, 0, 124]
abbrev dktX3_readPause_1 : List UInt8 := dkwX3_readPause_1 ++ dktX3_readPause_2
def dkwX3_readPause_0 : List UInt8 := [42, 180, 0, 77, 27, 6, 96, 46, 6, 160, 0, 9, 42, 6, 182, 0, 99, 172, 42, 182, 0, 109]
abbrev dktX3_readPause_0 : List UInt8 := dkwX3_readPause_0 ++ dktX3_readPause_1
theorem dksX3_readPause_0 : cX3_readPause.data.toList.drop 0 = dktX3_readPause_0 := by decide +kernel
theorem dksX3_readPause_1 : cX3_readPause.data.toList.drop 22 = dktX3_readPause_1 := dk_seg dksX3_readPause_0 22 rfl rfl
theorem dksX3_readPause_2 : cX3_readPause.data.toList.drop 44 = dktX3_readPause_2 := dk_seg dksX3_readPause_1 22 rfl rfl
theorem dksX3_readPause_3 : cX3_readPause.data.toList.drop 67 = dktX3_readPause_3 := dk_seg dksX3_readPause_2 23 rfl rfl
theorem dksX3_readPause_4 : cX3_readPause.data.toList.drop 91 = dktX3_readPause_4 := dk_seg dksX3_readPause_3 24 rfl rfl
theorem dksX3_readPause_5 : cX3_readPause.data.toList.drop 113 = dktX3_readPause_5 := dk_seg dksX3_readPause_4 22 rfl rfl
theorem dksX3_readPause_6 : cX3_readPause.data.toList.drop 137 = dktX3_readPause_6 := dk_seg dksX3_readPause_5 24 rfl rfl
theorem dX3_readPause_0 : decode cX3_readPause 0 = .ok (.aload_n 0, 1) := dk_42 (dk_at dksX3_readPause_0 0 rfl rfl)
theorem dX3_readPause_1 : decode cX3_readPause 1 = .ok (.getfield 77, 3) := dk_180 0 77 (dk_at dksX3_readPause_0 1 rfl rfl)
theorem dX3_readPause_4 : decode cX3_readPause 4 = .ok (.iload_n 1, 1) := dk_27 (dk_at dksX3_readPause_0 4 rfl rfl)
theorem dX3_readPause_5 : decode cX3_readPause 5 = .ok (.iconst 3, 1) := dk_6 (dk_at dksX3_readPause_0 5 rfl rfl)
theorem dX3_readPause_6 : decode cX3_readPause 6 = .ok (.iadd, 1) := dk_96 (dk_at dksX3_readPause_0 6 rfl rfl)
theorem dX3_readPause_7 : decode cX3_readPause 7 = .ok (.iaload, 1) := dk_46 (dk_at dksX3_readPause_0 7 rfl rfl)
theorem dX3_readPause_8 : decode cX3_readPause 8 = .ok (.iconst 3, 1) := dk_6 (dk_at dksX3_readPause_0 8 rfl rfl)
theorem dX3_readPause_9 : decode cX3_readPause 9 = .ok (.if_icmp .ne 9, 3) := dk_160 0 9 (dk_at dksX3_readPause_0 9 rfl rfl)
theorem dX3_readPause_12 : decode cX3_readPause 12 = .ok (.aload_n 0, 1) := dk_42 (dk_at dksX3_readPause_0 12 rfl rfl)
theorem dX3_readPause_13 : decode cX3_readPause 13 = .ok (.iconst 3, 1) := dk_6 (dk_at dksX3_readPause_0 13 rfl rfl)
theorem dX3_readPause_14 : decode cX3_readPause 14 = .ok (.invokevirtual 99, 3) := dk_182 0 99 (dk_at dksX3_readPause_0 14 rfl rfl)
theorem dX3_readPause_17 : decode cX3_readPause 17 = .ok (.ireturn, 1) := dk_172 (dk_at dksX3_readPause_0 17 rfl rfl)
theorem dX3_readPause_18 : decode cX3_readPause 18 = .ok (.aload_n 0, 1) := dk_42 (dk_at dksX3_readPause_0 18 rfl rfl)
theorem dX3_readPause_19 : decode cX3_readPause 19 = .ok (.invokevirtual 109, 3) := dk_182 0 109 (dk_at dksX3_readPause_0 19 rfl rfl)
theorem dX3_readPause_22 : decode cX3_readPause 22 = .ok (.sipush 188, 3) := dk_17 0 188 (dk_at dksX3_readPause_1 0 rfl rfl)
theorem dX3_readPause_25 : decode cX3_readPause 25 = .ok (.iconst 5, 1) := dk_8 (dk_at dksX3_readPause_1 3 rfl rfl)
theorem dX3_readPause_26 : decode cX3_readPause 26 = .ok (.aload_n 0, 1) := dk_42 (dk_at dksX3_readPause_1 4 rfl rfl)
theorem dX3_readPause_27 : decode cX3_readPause 27 = .ok (.getfield 77, 3) := dk_180 0 77 (dk_at dksX3_readPause_1 5 rfl rfl)
theorem dX3_readPause_30 : decode cX3_readPause 30 = .ok (.iconst 3, 1) := dk_6 (dk_at dksX3_readPause_1 8 rfl rfl)
theorem dX3_readPause_31 : decode cX3_readPause 31 = .ok (.iaload, 1) := dk_46 (dk_at dksX3_readPause_1 9 rfl rfl)
theorem dX3_readPause_32 : decode cX3_readPause 32 = .ok (.imul, 1) := dk_104 (dk_at dksX3_readPause_1 10 rfl rfl)
theorem dX3_readPause_33 : decode cX3_readPause 33 = .ok (.iadd, 1) := dk_96 (dk_at dksX3_readPause_1 11 rfl rfl)
theorem dX3_readPause_34 : decode cX3_readPause 34 = .ok (.istore_n 2, 1) := dk_61 (dk_at dksX3_readPause_1 12 rfl rfl)
theorem dX3_readPause_35 : decode cX3_readPause 35 = .ok (.aload_n 0, 1) := dk_42 (dk_at dksX3_readPause_1 13 rfl rfl)
theorem dX3_readPause_36 : decode cX3_readPause 36 = .ok (.iload_n 2, 1) := dk_28 (dk_at dksX3_readPause_1 14 rfl rfl)
theorem dX3_readPause_37 : decode cX3_readPause 37 = .ok (.iconst 1, 1) := dk_4 (dk_at dksX3_readPause_1 15 rfl rfl)
theorem dX3_readPause_38 : decode cX3_readPause 38 = .ok (.iadd, 1) := dk_96 (dk_at dksX3_readPause_1 16 rfl rfl)
theorem dX3_readPause_39 : decode cX3_readPause 39 = .ok (.iconst 1, 1) := dk_4 (dk_at dksX3_readPause_1 17 rfl rfl)
theorem dX3_readPause_40 : decode cX3_readPause 40 = .ok (.iconst 4, 1) := dk_7 (dk_at dksX3_readPause_1 18 rfl rfl)
theorem dX3_readPause_41 : decode cX3_readPause 41 = .ok (.invokevirtual 124, 3) := dk_182 0 124 (dk_at dksX3_readPause_1 19 rfl rfl)
theorem dX3_readPause_44 : decode cX3_readPause 44 = .ok (.ifCond .eq 66, 3) := dk_153 0 66 (dk_at dksX3_readPause_2 0 rfl rfl)
theorem dX3_readPause_47 : decode cX3_readPause 47 = .ok (.aload_n 0, 1) := dk_42 (dk_at dksX3_readPause_2 3 rfl rfl)
theorem dX3_readPause_48 : decode cX3_readPause 48 = .ok (.iload_n 2, 1) := dk_28 (dk_at dksX3_readPause_2 4 rfl rfl)
theorem dX3_readPause_49 : decode cX3_readPause 49 = .ok (.iconst 2, 1) := dk_5 (dk_at dksX3_readPause_2 5 rfl rfl)
theorem dX3_readPause_50 : decode cX3_readPause 50 = .ok (.iadd, 1) := dk_96 (dk_at dksX3_readPause_2 6 rfl rfl)
theorem dX3_readPause_51 : decode cX3_readPause 51 = .ok (.aload_n 0, 1) := dk_42 (dk_at dksX3_readPause_2 7 rfl rfl)
theorem dX3_readPause_52 : decode cX3_readPause 52 = .ok (.getfield 77, 3) := dk_180 0 77 (dk_at dksX3_readPause_2 8 rfl rfl)
theorem dX3_readPause_55 : decode cX3_readPause 55 = .ok (.iload_n 1, 1) := dk_27 (dk_at dksX3_readPause_2 11 rfl rfl)
theorem dX3_readPause_56 : decode cX3_readPause 56 = .ok (.iconst 1, 1) := dk_4 (dk_at dksX3_readPause_2 12 rfl rfl)
theorem dX3_readPause_57 : decode cX3_readPause 57 = .ok (.iadd, 1) := dk_96 (dk_at dksX3_readPause_2 13 rfl rfl)
theorem dX3_readPause_58 : decode cX3_readPause 58 = .ok (.iaload, 1) := dk_46 (dk_at dksX3_readPause_2 14 rfl rfl)
theorem dX3_readPause_59 : decode cX3_readPause 59 = .ok (.aload_n 0, 1) := dk_42 (dk_at dksX3_readPause_2 15 rfl rfl)
theorem dX3_readPause_60 : decode cX3_readPause 60 = .ok (.getfield 77, 3) := dk_180 0 77 (dk_at dksX3_readPause_2 16 rfl rfl)
theorem dX3_readPause_63 : decode cX3_readPause 63 = .ok (.iload_n 1, 1) := dk_27 (dk_at dksX3_readPause_2 19 rfl rfl)
theorem dX3_readPause_64 : decode cX3_readPause 64 = .ok (.iconst 2, 1) := dk_5 (dk_at dksX3_readPause_2 20 rfl rfl)
theorem dX3_readPause_65 : decode cX3_readPause 65 = .ok (.iadd, 1) := dk_96 (dk_at dksX3_readPause_2 21 rfl rfl)
theorem dX3_readPause_66 : decode cX3_readPause 66 = .ok (.iaload, 1) := dk_46 (dk_at dksX3_readPause_2 22 rfl rfl)
theorem dX3_readPause_67 : decode cX3_readPause 67 = .ok (.invokevirtual 124, 3) := dk_182 0 124 (dk_at dksX3_readPause_3 0 rfl rfl)
theorem dX3_readPause_70 : decode cX3_readPause 70 = .ok (.ifCond .eq 40, 3) := dk_153 0 40 (dk_at dksX3_readPause_3 3 rfl rfl)
theorem dX3_readPause_73 : decode cX3_readPause 73 = .ok (.aload_n 0, 1) := dk_42 (dk_at dksX3_readPause_3 6 rfl rfl)
theorem dX3_readPause_74 : decode cX3_readPause 74 = .ok (.iload_n 2, 1) := dk_28 (dk_at dksX3_readPause_3 7 rfl rfl)
theorem dX3_readPause_75 : decode cX3_readPause 75 = .ok (.iconst 3, 1) := dk_6 (dk_at dksX3_readPause_3 8 rfl rfl)
theorem dX3_readPause_76 : decode cX3_readPause 76 = .ok (.iadd, 1) := dk_96 (dk_at dksX3_readPause_3 9 rfl rfl)
theorem dX3_readPause_77 : decode cX3_readPause 77 = .ok (.aload_n 0, 1) := dk_42 (dk_at dksX3_readPause_3 10 rfl rfl)
theorem dX3_readPause_78 : decode cX3_readPause 78 = .ok (.getfield 77, 3) := dk_180 0 77 (dk_at dksX3_readPause_3 11 rfl rfl)
theorem dX3_readPause_81 : decode cX3_readPause 81 = .ok (.iload_n 2, 1) := dk_28 (dk_at dksX3_readPause_3 14 rfl rfl)
theorem dX3_readPause_82 : decode cX3_readPause 82 = .ok (.iconst 2, 1) := dk_5 (dk_at dksX3_readPause_3 15 rfl rfl)
theorem dX3_readPause_83 : decode cX3_readPause 83 = .ok (.iadd, 1) := dk_96 (dk_at dksX3_readPause_3 16 rfl rfl)
theorem dX3_readPause_84 : decode cX3_readPause 84 = .ok (.iaload, 1) := dk_46 (dk_at dksX3_readPause_3 17 rfl rfl)
theorem dX3_readPause_85 : decode cX3_readPause 85 = .ok (.aload_n 0, 1) := dk_42 (dk_at dksX3_readPause_3 18 rfl rfl)
theorem dX3_readPause_86 : decode cX3_readPause 86 = .ok (.getfield 77, 3) := dk_180 0 77 (dk_at dksX3_readPause_3 19 rfl rfl)
theorem dX3_readPause_89 : decode cX3_readPause 89 = .ok (.iload_n 1, 1) := dk_27 (dk_at dksX3_readPause_3 22 rfl rfl)
theorem dX3_readPause_90 : decode cX3_readPause 90 = .ok (.iconst 2, 1) := dk_5 (dk_at dksX3_readPause_3 23 rfl rfl)
theorem dX3_readPause_91 : decode cX3_readPause 91 = .ok (.iadd, 1) := dk_96 (dk_at dksX3_readPause_4 0 rfl rfl)
theorem dX3_readPause_92 : decode cX3_readPause 92 = .ok (.iaload, 1) := dk_46 (dk_at dksX3_readPause_4 1 rfl rfl)
theorem dX3_readPause_93 : decode cX3_readPause 93 = .ok (.aload_n 0, 1) := dk_42 (dk_at dksX3_readPause_4 2 rfl rfl)
theorem dX3_readPause_94 : decode cX3_readPause 94 = .ok (.getfield 77, 3) := dk_180 0 77 (dk_at dksX3_readPause_4 3 rfl rfl)
theorem dX3_readPause_97 : decode cX3_readPause 97 = .ok (.iload_n 2, 1) := dk_28 (dk_at dksX3_readPause_4 6 rfl rfl)
theorem dX3_readPause_98 : decode cX3_readPause 98 = .ok (.iconst 1, 1) := dk_4 (dk_at dksX3_readPause_4 7 rfl rfl)
theorem dX3_readPause_99 : decode cX3_readPause 99 = .ok (.iadd, 1) := dk_96 (dk_at dksX3_readPause_4 8 rfl rfl)
theorem dX3_readPause_100 : decode cX3_readPause 100 = .ok (.iaload, 1) := dk_46 (dk_at dksX3_readPause_4 9 rfl rfl)
theorem dX3_readPause_101 : decode cX3_readPause 101 = .ok (.isub, 1) := dk_100 (dk_at dksX3_readPause_4 10 rfl rfl)
theorem dX3_readPause_102 : decode cX3_readPause 102 = .ok (.iconst 1, 1) := dk_4 (dk_at dksX3_readPause_4 11 rfl rfl)
theorem dX3_readPause_103 : decode cX3_readPause 103 = .ok (.iadd, 1) := dk_96 (dk_at dksX3_readPause_4 12 rfl rfl)
theorem dX3_readPause_104 : decode cX3_readPause 104 = .ok (.invokevirtual 124, 3) := dk_182 0 124 (dk_at dksX3_readPause_4 13 rfl rfl)
theorem dX3_readPause_107 : decode cX3_readPause 107 = .ok (.ifCond .ne 5, 3) := dk_154 0 5 (dk_at dksX3_readPause_4 16 rfl rfl)
theorem dX3_readPause_110 : decode cX3_readPause 110 = .ok (.iconst 0, 1) := dk_3 (dk_at dksX3_readPause_4 19 rfl rfl)
theorem dX3_readPause_111 : decode cX3_readPause 111 = .ok (.ireturn, 1) := dk_172 (dk_at dksX3_readPause_4 20 rfl rfl)
theorem dX3_readPause_112 : decode cX3_readPause 112 = .ok (.aload_n 0, 1) := dk_42 (dk_at dksX3_readPause_4 21 rfl rfl)
theorem dX3_readPause_113 : decode cX3_readPause 113 = .ok (.getfield 77, 3) := dk_180 0 77 (dk_at dksX3_readPause_5 0 rfl rfl)
theorem dX3_readPause_116 : decode cX3_readPause 116 = .ok (.iload_n 2, 1) := dk_28 (dk_at dksX3_readPause_5 3 rfl rfl)
theorem dX3_readPause_117 : decode cX3_readPause 117 = .ok (.iconst 0, 1) := dk_3 (dk_at dksX3_readPause_5 4 rfl rfl)
theorem dX3_readPause_118 : decode cX3_readPause 118 = .ok (.iadd, 1) := dk_96 (dk_at dksX3_readPause_5 5 rfl rfl)
theorem dX3_readPause_119 : decode cX3_readPause 119 = .ok (.aload_n 0, 1) := dk_42 (dk_at dksX3_readPause_5 6 rfl rfl)
theorem dX3_readPause_120 : decode cX3_readPause 120 = .ok (.getfield 77, 3) := dk_180 0 77 (dk_at dksX3_readPause_5 7 rfl rfl)
theorem dX3_readPause_123 : decode cX3_readPause 123 = .ok (.iconst 2, 1) := dk_5 (dk_at dksX3_readPause_5 10 rfl rfl)
theorem dX3_readPause_124 : decode cX3_readPause 124 = .ok (.iaload, 1) := dk_46 (dk_at dksX3_readPause_5 11 rfl rfl)
theorem dX3_readPause_125 : decode cX3_readPause 125 = .ok (.iastore, 1) := dk_79 (dk_at dksX3_readPause_5 12 rfl rfl)
theorem dX3_readPause_126 : decode cX3_readPause 126 = .ok (.aload_n 0, 1) := dk_42 (dk_at dksX3_readPause_5 13 rfl rfl)
theorem dX3_readPause_127 : decode cX3_readPause 127 = .ok (.getfield 77, 3) := dk_180 0 77 (dk_at dksX3_readPause_5 14 rfl rfl)
theorem dX3_readPause_130 : decode cX3_readPause 130 = .ok (.iload_n 1, 1) := dk_27 (dk_at dksX3_readPause_5 17 rfl rfl)
theorem dX3_readPause_131 : decode cX3_readPause 131 = .ok (.iconst 3, 1) := dk_6 (dk_at dksX3_readPause_5 18 rfl rfl)
theorem dX3_readPause_132 : decode cX3_readPause 132 = .ok (.iadd, 1) := dk_96 (dk_at dksX3_readPause_5 19 rfl rfl)
theorem dX3_readPause_133 : decode cX3_readPause 133 = .ok (.dup2, 1) := dk_92 (dk_at dksX3_readPause_5 20 rfl rfl)
theorem dX3_readPause_134 : decode cX3_readPause 134 = .ok (.iaload, 1) := dk_46 (dk_at dksX3_readPause_5 21 rfl rfl)
theorem dX3_readPause_135 : decode cX3_readPause 135 = .ok (.iconst 1, 1) := dk_4 (dk_at dksX3_readPause_5 22 rfl rfl)
theorem dX3_readPause_136 : decode cX3_readPause 136 = .ok (.iadd, 1) := dk_96 (dk_at dksX3_readPause_5 23 rfl rfl)
theorem dX3_readPause_137 : decode cX3_readPause 137 = .ok (.iastore, 1) := dk_79 (dk_at dksX3_readPause_6 0 rfl rfl)
theorem dX3_readPause_138 : decode cX3_readPause 138 = .ok (.aload_n 0, 1) := dk_42 (dk_at dksX3_readPause_6 1 rfl rfl)
theorem dX3_readPause_139 : decode cX3_readPause 139 = .ok (.getfield 77, 3) := dk_180 0 77 (dk_at dksX3_readPause_6 2 rfl rfl)
theorem dX3_readPause_142 : decode cX3_readPause 142 = .ok (.iconst 3, 1) := dk_6 (dk_at dksX3_readPause_6 5 rfl rfl)
theorem dX3_readPause_143 : decode cX3_readPause 143 = .ok (.dup2, 1) := dk_92 (dk_at dksX3_readPause_6 6 rfl rfl)
theorem dX3_readPause_144 : decode cX3_readPause 144 = .ok (.iaload, 1) := dk_46 (dk_at dksX3_readPause_6 7 rfl rfl)
theorem dX3_readPause_145 : decode cX3_readPause 145 = .ok (.iconst 1, 1) := dk_4 (dk_at dksX3_readPause_6 8 rfl rfl)
theorem dX3_readPause_146 : decode cX3_readPause 146 = .ok (.iadd, 1) := dk_96 (dk_at dksX3_readPause_6 9 rfl rfl)
theorem dX3_readPause_147 : decode cX3_readPause 147 = .ok (.iastore, 1) := dk_79 (dk_at dksX3_readPause_6 10 rfl rfl)
theorem dX3_readPause_148 : decode cX3_readPause 148 = .ok (.iconst 1, 1) := dk_4 (dk_at dksX3_readPause_6 11 rfl rfl)
theorem dX3_readPause_149 : decode cX3_readPause 149 = .ok (.ireturn, 1) := dk_172 (dk_at dksX3_readPause_6 12 rfl rfl)
abbrev cX3_fault : ByteArray := prog_9_method_26_code
def yX3_fault : MethodName := ⟨RX3, "fault", "()I"⟩
def dkwX3_fault_0 : List UInt8 := [42, 3, 181, 0, 1, 42, 180, 0, 62, 172]
abbrev dktX3_fault_0 : List UInt8 := dkwX3_fault_0 ++ []
theorem dksX3_fault_0 : cX3_fault.data.toList.drop 0 = dktX3_fault_0 := by decide +kernel
theorem dX3_fault_0 : decode cX3_fault 0 = .ok (.aload_n 0, 1) := dk_42 (dk_at dksX3_fault_0 0 rfl rfl)
theorem dX3_fault_1 : decode cX3_fault 1 = .ok (.iconst 0, 1) := dk_3 (dk_at dksX3_fault_0 1 rfl rfl)
theorem dX3_fault_2 : decode cX3_fault 2 = .ok (.putfield 1, 3) := dk_181 0 1 (dk_at dksX3_fault_0 2 rfl rfl)
theorem dX3_fault_5 : decode cX3_fault 5 = .ok (.aload_n 0, 1) := dk_42 (dk_at dksX3_fault_0 5 rfl rfl)
theorem dX3_fault_6 : decode cX3_fault 6 = .ok (.getfield 62, 3) := dk_180 0 62 (dk_at dksX3_fault_0 6 rfl rfl)
theorem dX3_fault_9 : decode cX3_fault 9 = .ok (.ireturn, 1) := dk_172 (dk_at dksX3_fault_0 9 rfl rfl)
abbrev cX3_now : ByteArray := prog_9_method_46_code
def yX3_now : MethodName := ⟨RX3, "now", "(I)I"⟩
def dkwX3_now_4 : List UInt8 := [180, 0, 11, 172, 2, 172]
abbrev dktX3_now_4 : List UInt8 := dkwX3_now_4 ++ []
def dkwX3_now_3 : List UInt8 := [182, 0, 197, 172, 42, 182, 0, 187, 172, 42, 180, 0, 74, 4, 46, 172, 42, 180, 0, 152, 172, 42]
abbrev dktX3_now_3 : List UInt8 := dkwX3_now_3 ++ dktX3_now_4
def dkwX3_now_2 : List UInt8 := [42, 180, 0, 74, 3, 46, 172, 42, 180, 0, 74, 5, 46, 172, 42, 180, 0, 74, 6, 46, 172, 42]
abbrev dktX3_now_2 : List UInt8 := dkwX3_now_2 ++ dktX3_now_3
def dkwX3_now_1 : List UInt8 := [170, 0, 0, 0, 0, 94, 0, 0, 0, 0, 0, 0, 0, 7, 0, 0, 0, 46, 0, 0, 0, 53, 0, 0, 0, 60, 0, 0, 0, 67, 0, 0, 0, 72, 0, 0, 0, 77, 0, 0, 0, 84, 0, 0, 0, 89]
abbrev dktX3_now_1 : List UInt8 := dkwX3_now_1 ++ dktX3_now_2
def dkwX3_now_0 : List UInt8 := [42, 3, 181, 0, 1, 27]
abbrev dktX3_now_0 : List UInt8 := dkwX3_now_0 ++ dktX3_now_1
theorem dksX3_now_0 : cX3_now.data.toList.drop 0 = dktX3_now_0 := by decide +kernel
theorem dksX3_now_1 : cX3_now.data.toList.drop 6 = dktX3_now_1 := dk_seg dksX3_now_0 6 rfl rfl
theorem dksX3_now_2 : cX3_now.data.toList.drop 52 = dktX3_now_2 := dk_seg dksX3_now_1 46 rfl rfl
theorem dksX3_now_3 : cX3_now.data.toList.drop 74 = dktX3_now_3 := dk_seg dksX3_now_2 22 rfl rfl
theorem dksX3_now_4 : cX3_now.data.toList.drop 96 = dktX3_now_4 := dk_seg dksX3_now_3 22 rfl rfl
theorem dX3_now_0 : decode cX3_now 0 = .ok (.aload_n 0, 1) := dk_42 (dk_at dksX3_now_0 0 rfl rfl)
theorem dX3_now_1 : decode cX3_now 1 = .ok (.iconst 0, 1) := dk_3 (dk_at dksX3_now_0 1 rfl rfl)
theorem dX3_now_2 : decode cX3_now 2 = .ok (.putfield 1, 3) := dk_181 0 1 (dk_at dksX3_now_0 2 rfl rfl)
theorem dX3_now_5 : decode cX3_now 5 = .ok (.iload_n 1, 1) := dk_27 (dk_at dksX3_now_0 5 rfl rfl)
theorem dX3_now_6 : decode cX3_now 6 = .ok (.tableswitch 94 0 7 #[46, 53, 60, 67, 72, 77, 84, 89], 46) := by decide +kernel
theorem dX3_now_52 : decode cX3_now 52 = .ok (.aload_n 0, 1) := dk_42 (dk_at dksX3_now_2 0 rfl rfl)
theorem dX3_now_53 : decode cX3_now 53 = .ok (.getfield 74, 3) := dk_180 0 74 (dk_at dksX3_now_2 1 rfl rfl)
theorem dX3_now_56 : decode cX3_now 56 = .ok (.iconst 0, 1) := dk_3 (dk_at dksX3_now_2 4 rfl rfl)
theorem dX3_now_57 : decode cX3_now 57 = .ok (.iaload, 1) := dk_46 (dk_at dksX3_now_2 5 rfl rfl)
theorem dX3_now_58 : decode cX3_now 58 = .ok (.ireturn, 1) := dk_172 (dk_at dksX3_now_2 6 rfl rfl)
theorem dX3_now_59 : decode cX3_now 59 = .ok (.aload_n 0, 1) := dk_42 (dk_at dksX3_now_2 7 rfl rfl)
theorem dX3_now_60 : decode cX3_now 60 = .ok (.getfield 74, 3) := dk_180 0 74 (dk_at dksX3_now_2 8 rfl rfl)
theorem dX3_now_63 : decode cX3_now 63 = .ok (.iconst 2, 1) := dk_5 (dk_at dksX3_now_2 11 rfl rfl)
theorem dX3_now_64 : decode cX3_now 64 = .ok (.iaload, 1) := dk_46 (dk_at dksX3_now_2 12 rfl rfl)
theorem dX3_now_65 : decode cX3_now 65 = .ok (.ireturn, 1) := dk_172 (dk_at dksX3_now_2 13 rfl rfl)
theorem dX3_now_66 : decode cX3_now 66 = .ok (.aload_n 0, 1) := dk_42 (dk_at dksX3_now_2 14 rfl rfl)
theorem dX3_now_67 : decode cX3_now 67 = .ok (.getfield 74, 3) := dk_180 0 74 (dk_at dksX3_now_2 15 rfl rfl)
theorem dX3_now_70 : decode cX3_now 70 = .ok (.iconst 3, 1) := dk_6 (dk_at dksX3_now_2 18 rfl rfl)
theorem dX3_now_71 : decode cX3_now 71 = .ok (.iaload, 1) := dk_46 (dk_at dksX3_now_2 19 rfl rfl)
theorem dX3_now_72 : decode cX3_now 72 = .ok (.ireturn, 1) := dk_172 (dk_at dksX3_now_2 20 rfl rfl)
theorem dX3_now_73 : decode cX3_now 73 = .ok (.aload_n 0, 1) := dk_42 (dk_at dksX3_now_2 21 rfl rfl)
theorem dX3_now_74 : decode cX3_now 74 = .ok (.invokevirtual 197, 3) := dk_182 0 197 (dk_at dksX3_now_3 0 rfl rfl)
theorem dX3_now_77 : decode cX3_now 77 = .ok (.ireturn, 1) := dk_172 (dk_at dksX3_now_3 3 rfl rfl)
theorem dX3_now_78 : decode cX3_now 78 = .ok (.aload_n 0, 1) := dk_42 (dk_at dksX3_now_3 4 rfl rfl)
theorem dX3_now_79 : decode cX3_now 79 = .ok (.invokevirtual 187, 3) := dk_182 0 187 (dk_at dksX3_now_3 5 rfl rfl)
theorem dX3_now_82 : decode cX3_now 82 = .ok (.ireturn, 1) := dk_172 (dk_at dksX3_now_3 8 rfl rfl)
theorem dX3_now_83 : decode cX3_now 83 = .ok (.aload_n 0, 1) := dk_42 (dk_at dksX3_now_3 9 rfl rfl)
theorem dX3_now_84 : decode cX3_now 84 = .ok (.getfield 74, 3) := dk_180 0 74 (dk_at dksX3_now_3 10 rfl rfl)
theorem dX3_now_87 : decode cX3_now 87 = .ok (.iconst 1, 1) := dk_4 (dk_at dksX3_now_3 13 rfl rfl)
theorem dX3_now_88 : decode cX3_now 88 = .ok (.iaload, 1) := dk_46 (dk_at dksX3_now_3 14 rfl rfl)
theorem dX3_now_89 : decode cX3_now 89 = .ok (.ireturn, 1) := dk_172 (dk_at dksX3_now_3 15 rfl rfl)
theorem dX3_now_90 : decode cX3_now 90 = .ok (.aload_n 0, 1) := dk_42 (dk_at dksX3_now_3 16 rfl rfl)
theorem dX3_now_91 : decode cX3_now 91 = .ok (.getfield 152, 3) := dk_180 0 152 (dk_at dksX3_now_3 17 rfl rfl)
theorem dX3_now_94 : decode cX3_now 94 = .ok (.ireturn, 1) := dk_172 (dk_at dksX3_now_3 20 rfl rfl)
theorem dX3_now_95 : decode cX3_now 95 = .ok (.aload_n 0, 1) := dk_42 (dk_at dksX3_now_3 21 rfl rfl)
theorem dX3_now_96 : decode cX3_now 96 = .ok (.getfield 11, 3) := dk_180 0 11 (dk_at dksX3_now_4 0 rfl rfl)
theorem dX3_now_99 : decode cX3_now 99 = .ok (.ireturn, 1) := dk_172 (dk_at dksX3_now_4 3 rfl rfl)
theorem dX3_now_100 : decode cX3_now 100 = .ok (.iconst (-1), 1) := dk_2 (dk_at dksX3_now_4 4 rfl rfl)
theorem dX3_now_101 : decode cX3_now 101 = .ok (.ireturn, 1) := dk_172 (dk_at dksX3_now_4 5 rfl rfl)
abbrev cX3_placed : ByteArray := prog_9_method_45_code
def yX3_placed : MethodName := ⟨RX3, "placed", "()I"⟩
def dkwX3_placed_1 : List UInt8 := [132, 1, 1, 132, 2, 1, 167, 255, 231, 27, 172]
abbrev dktX3_placed_1 : List UInt8 := dkwX3_placed_1 ++ []
def dkwX3_placed_0 : List UInt8 := [3, 60, 3, 61, 28, 42, 180, 0, 74, 6, 46, 162, 0, 21, 42, 28, 182, 0, 162, 2, 159, 0, 6]
abbrev dktX3_placed_0 : List UInt8 := dkwX3_placed_0 ++ dktX3_placed_1
theorem dksX3_placed_0 : cX3_placed.data.toList.drop 0 = dktX3_placed_0 := by decide +kernel
theorem dksX3_placed_1 : cX3_placed.data.toList.drop 23 = dktX3_placed_1 := dk_seg dksX3_placed_0 23 rfl rfl
theorem dX3_placed_0 : decode cX3_placed 0 = .ok (.iconst 0, 1) := dk_3 (dk_at dksX3_placed_0 0 rfl rfl)
theorem dX3_placed_1 : decode cX3_placed 1 = .ok (.istore_n 1, 1) := dk_60 (dk_at dksX3_placed_0 1 rfl rfl)
theorem dX3_placed_2 : decode cX3_placed 2 = .ok (.iconst 0, 1) := dk_3 (dk_at dksX3_placed_0 2 rfl rfl)
theorem dX3_placed_3 : decode cX3_placed 3 = .ok (.istore_n 2, 1) := dk_61 (dk_at dksX3_placed_0 3 rfl rfl)
theorem dX3_placed_4 : decode cX3_placed 4 = .ok (.iload_n 2, 1) := dk_28 (dk_at dksX3_placed_0 4 rfl rfl)
theorem dX3_placed_5 : decode cX3_placed 5 = .ok (.aload_n 0, 1) := dk_42 (dk_at dksX3_placed_0 5 rfl rfl)
theorem dX3_placed_6 : decode cX3_placed 6 = .ok (.getfield 74, 3) := dk_180 0 74 (dk_at dksX3_placed_0 6 rfl rfl)
theorem dX3_placed_9 : decode cX3_placed 9 = .ok (.iconst 3, 1) := dk_6 (dk_at dksX3_placed_0 9 rfl rfl)
theorem dX3_placed_10 : decode cX3_placed 10 = .ok (.iaload, 1) := dk_46 (dk_at dksX3_placed_0 10 rfl rfl)
theorem dX3_placed_11 : decode cX3_placed 11 = .ok (.if_icmp .ge 21, 3) := dk_162 0 21 (dk_at dksX3_placed_0 11 rfl rfl)
theorem dX3_placed_14 : decode cX3_placed 14 = .ok (.aload_n 0, 1) := dk_42 (dk_at dksX3_placed_0 14 rfl rfl)
theorem dX3_placed_15 : decode cX3_placed 15 = .ok (.iload_n 2, 1) := dk_28 (dk_at dksX3_placed_0 15 rfl rfl)
theorem dX3_placed_16 : decode cX3_placed 16 = .ok (.invokevirtual 162, 3) := dk_182 0 162 (dk_at dksX3_placed_0 16 rfl rfl)
theorem dX3_placed_19 : decode cX3_placed 19 = .ok (.iconst (-1), 1) := dk_2 (dk_at dksX3_placed_0 19 rfl rfl)
theorem dX3_placed_20 : decode cX3_placed 20 = .ok (.if_icmp .eq 6, 3) := dk_159 0 6 (dk_at dksX3_placed_0 20 rfl rfl)
theorem dX3_placed_23 : decode cX3_placed 23 = .ok (.iinc 1 1, 3) := dk_132 1 1 (dk_at dksX3_placed_1 0 rfl rfl)
theorem dX3_placed_26 : decode cX3_placed 26 = .ok (.iinc 2 1, 3) := dk_132 2 1 (dk_at dksX3_placed_1 3 rfl rfl)
theorem dX3_placed_29 : decode cX3_placed 29 = .ok (.goto (-25), 3) := dk_167 255 231 (dk_at dksX3_placed_1 6 rfl rfl)
theorem dX3_placed_32 : decode cX3_placed 32 = .ok (.iload_n 1, 1) := dk_27 (dk_at dksX3_placed_1 9 rfl rfl)
theorem dX3_placed_33 : decode cX3_placed 33 = .ok (.ireturn, 1) := dk_172 (dk_at dksX3_placed_1 10 rfl rfl)
abbrev cX3_placeOf : ByteArray := prog_9_method_32_code
def yX3_placeOf : MethodName := ⟨RX3, "placeOf", "(I)I"⟩
def dkwX3_placeOf_0 : List UInt8 := [42, 27, 7, 182, 0, 155, 4, 100, 172]
abbrev dktX3_placeOf_0 : List UInt8 := dkwX3_placeOf_0 ++ []
theorem dksX3_placeOf_0 : cX3_placeOf.data.toList.drop 0 = dktX3_placeOf_0 := by decide +kernel
theorem dX3_placeOf_0 : decode cX3_placeOf 0 = .ok (.aload_n 0, 1) := dk_42 (dk_at dksX3_placeOf_0 0 rfl rfl)
theorem dX3_placeOf_1 : decode cX3_placeOf 1 = .ok (.iload_n 1, 1) := dk_27 (dk_at dksX3_placeOf_0 1 rfl rfl)
theorem dX3_placeOf_2 : decode cX3_placeOf 2 = .ok (.iconst 4, 1) := dk_7 (dk_at dksX3_placeOf_0 2 rfl rfl)
theorem dX3_placeOf_3 : decode cX3_placeOf 3 = .ok (.invokevirtual 155, 3) := dk_182 0 155 (dk_at dksX3_placeOf_0 3 rfl rfl)
theorem dX3_placeOf_6 : decode cX3_placeOf 6 = .ok (.iconst 1, 1) := dk_4 (dk_at dksX3_placeOf_0 6 rfl rfl)
theorem dX3_placeOf_7 : decode cX3_placeOf 7 = .ok (.isub, 1) := dk_100 (dk_at dksX3_placeOf_0 7 rfl rfl)
theorem dX3_placeOf_8 : decode cX3_placeOf 8 = .ok (.ireturn, 1) := dk_172 (dk_at dksX3_placeOf_0 8 rfl rfl)
abbrev cX3_its : ByteArray := prog_9_method_31_code
def yX3_its : MethodName := ⟨RX3, "its", "(II)I"⟩
def dkwX3_its_0 : List UInt8 := [42, 180, 0, 74, 17, 0, 188, 8, 27, 104, 96, 28, 96, 46, 172]
abbrev dktX3_its_0 : List UInt8 := dkwX3_its_0 ++ []
theorem dksX3_its_0 : cX3_its.data.toList.drop 0 = dktX3_its_0 := by decide +kernel
theorem dX3_its_0 : decode cX3_its 0 = .ok (.aload_n 0, 1) := dk_42 (dk_at dksX3_its_0 0 rfl rfl)
theorem dX3_its_1 : decode cX3_its 1 = .ok (.getfield 74, 3) := dk_180 0 74 (dk_at dksX3_its_0 1 rfl rfl)
theorem dX3_its_4 : decode cX3_its 4 = .ok (.sipush 188, 3) := dk_17 0 188 (dk_at dksX3_its_0 4 rfl rfl)
theorem dX3_its_7 : decode cX3_its 7 = .ok (.iconst 5, 1) := dk_8 (dk_at dksX3_its_0 7 rfl rfl)
theorem dX3_its_8 : decode cX3_its 8 = .ok (.iload_n 1, 1) := dk_27 (dk_at dksX3_its_0 8 rfl rfl)
theorem dX3_its_9 : decode cX3_its 9 = .ok (.imul, 1) := dk_104 (dk_at dksX3_its_0 9 rfl rfl)
theorem dX3_its_10 : decode cX3_its 10 = .ok (.iadd, 1) := dk_96 (dk_at dksX3_its_0 10 rfl rfl)
theorem dX3_its_11 : decode cX3_its 11 = .ok (.iload_n 2, 1) := dk_28 (dk_at dksX3_its_0 11 rfl rfl)
theorem dX3_its_12 : decode cX3_its 12 = .ok (.iadd, 1) := dk_96 (dk_at dksX3_its_0 12 rfl rfl)
theorem dX3_its_13 : decode cX3_its 13 = .ok (.iaload, 1) := dk_46 (dk_at dksX3_its_0 13 rfl rfl)
theorem dX3_its_14 : decode cX3_its 14 = .ok (.ireturn, 1) := dk_172 (dk_at dksX3_its_0 14 rfl rfl)
abbrev cX3_shortfall : ByteArray := prog_9_method_40_code
def yX3_shortfall : MethodName := ⟨RX3, "shortfall", "()I"⟩
def dkwX3_shortfall_1 : List UInt8 := [27, 172]
abbrev dktX3_shortfall_1 : List UInt8 := dkwX3_shortfall_1 ++ []
def dkwX3_shortfall_0 : List UInt8 := [3, 60, 3, 61, 28, 16, 48, 162, 0, 17, 27, 42, 28, 182, 0, 180, 96, 60, 132, 2, 1, 167, 255, 239]
abbrev dktX3_shortfall_0 : List UInt8 := dkwX3_shortfall_0 ++ dktX3_shortfall_1
theorem dksX3_shortfall_0 : cX3_shortfall.data.toList.drop 0 = dktX3_shortfall_0 := by decide +kernel
theorem dksX3_shortfall_1 : cX3_shortfall.data.toList.drop 24 = dktX3_shortfall_1 := dk_seg dksX3_shortfall_0 24 rfl rfl
theorem dX3_shortfall_0 : decode cX3_shortfall 0 = .ok (.iconst 0, 1) := dk_3 (dk_at dksX3_shortfall_0 0 rfl rfl)
theorem dX3_shortfall_1 : decode cX3_shortfall 1 = .ok (.istore_n 1, 1) := dk_60 (dk_at dksX3_shortfall_0 1 rfl rfl)
theorem dX3_shortfall_2 : decode cX3_shortfall 2 = .ok (.iconst 0, 1) := dk_3 (dk_at dksX3_shortfall_0 2 rfl rfl)
theorem dX3_shortfall_3 : decode cX3_shortfall 3 = .ok (.istore_n 2, 1) := dk_61 (dk_at dksX3_shortfall_0 3 rfl rfl)
theorem dX3_shortfall_4 : decode cX3_shortfall 4 = .ok (.iload_n 2, 1) := dk_28 (dk_at dksX3_shortfall_0 4 rfl rfl)
theorem dX3_shortfall_5 : decode cX3_shortfall 5 = .ok (.bipush 48, 2) := dk_16 48 (dk_at dksX3_shortfall_0 5 rfl rfl)
theorem dX3_shortfall_7 : decode cX3_shortfall 7 = .ok (.if_icmp .ge 17, 3) := dk_162 0 17 (dk_at dksX3_shortfall_0 7 rfl rfl)
theorem dX3_shortfall_10 : decode cX3_shortfall 10 = .ok (.iload_n 1, 1) := dk_27 (dk_at dksX3_shortfall_0 10 rfl rfl)
theorem dX3_shortfall_11 : decode cX3_shortfall 11 = .ok (.aload_n 0, 1) := dk_42 (dk_at dksX3_shortfall_0 11 rfl rfl)
theorem dX3_shortfall_12 : decode cX3_shortfall 12 = .ok (.iload_n 2, 1) := dk_28 (dk_at dksX3_shortfall_0 12 rfl rfl)
theorem dX3_shortfall_13 : decode cX3_shortfall 13 = .ok (.invokevirtual 180, 3) := dk_182 0 180 (dk_at dksX3_shortfall_0 13 rfl rfl)
theorem dX3_shortfall_16 : decode cX3_shortfall 16 = .ok (.iadd, 1) := dk_96 (dk_at dksX3_shortfall_0 16 rfl rfl)
theorem dX3_shortfall_17 : decode cX3_shortfall 17 = .ok (.istore_n 1, 1) := dk_60 (dk_at dksX3_shortfall_0 17 rfl rfl)
theorem dX3_shortfall_18 : decode cX3_shortfall 18 = .ok (.iinc 2 1, 3) := dk_132 2 1 (dk_at dksX3_shortfall_0 18 rfl rfl)
theorem dX3_shortfall_21 : decode cX3_shortfall 21 = .ok (.goto (-17), 3) := dk_167 255 239 (dk_at dksX3_shortfall_0 21 rfl rfl)
theorem dX3_shortfall_24 : decode cX3_shortfall 24 = .ok (.iload_n 1, 1) := dk_27 (dk_at dksX3_shortfall_1 0 rfl rfl)
theorem dX3_shortfall_25 : decode cX3_shortfall 25 = .ok (.ireturn, 1) := dk_172 (dk_at dksX3_shortfall_1 1 rfl rfl)
abbrev cX3_shortIn : ByteArray := prog_9_method_39_code
def yX3_shortIn : MethodName := ⟨RX3, "shortIn", "(I)I"⟩
def dkwX3_shortIn_1 : List UInt8 := [132, 3, 1, 167, 255, 234, 28, 172]
abbrev dktX3_shortIn_1 : List UInt8 := dkwX3_shortIn_1 ++ []
def dkwX3_shortIn_0 : List UInt8 := [3, 61, 3, 62, 29, 42, 180, 0, 74, 3, 46, 162, 0, 18, 28, 42, 29, 27, 182, 0, 177, 96, 61]
abbrev dktX3_shortIn_0 : List UInt8 := dkwX3_shortIn_0 ++ dktX3_shortIn_1
theorem dksX3_shortIn_0 : cX3_shortIn.data.toList.drop 0 = dktX3_shortIn_0 := by decide +kernel
theorem dksX3_shortIn_1 : cX3_shortIn.data.toList.drop 23 = dktX3_shortIn_1 := dk_seg dksX3_shortIn_0 23 rfl rfl
theorem dX3_shortIn_0 : decode cX3_shortIn 0 = .ok (.iconst 0, 1) := dk_3 (dk_at dksX3_shortIn_0 0 rfl rfl)
theorem dX3_shortIn_1 : decode cX3_shortIn 1 = .ok (.istore_n 2, 1) := dk_61 (dk_at dksX3_shortIn_0 1 rfl rfl)
theorem dX3_shortIn_2 : decode cX3_shortIn 2 = .ok (.iconst 0, 1) := dk_3 (dk_at dksX3_shortIn_0 2 rfl rfl)
theorem dX3_shortIn_3 : decode cX3_shortIn 3 = .ok (.istore_n 3, 1) := dk_62 (dk_at dksX3_shortIn_0 3 rfl rfl)
theorem dX3_shortIn_4 : decode cX3_shortIn 4 = .ok (.iload_n 3, 1) := dk_29 (dk_at dksX3_shortIn_0 4 rfl rfl)
theorem dX3_shortIn_5 : decode cX3_shortIn 5 = .ok (.aload_n 0, 1) := dk_42 (dk_at dksX3_shortIn_0 5 rfl rfl)
theorem dX3_shortIn_6 : decode cX3_shortIn 6 = .ok (.getfield 74, 3) := dk_180 0 74 (dk_at dksX3_shortIn_0 6 rfl rfl)
theorem dX3_shortIn_9 : decode cX3_shortIn 9 = .ok (.iconst 0, 1) := dk_3 (dk_at dksX3_shortIn_0 9 rfl rfl)
theorem dX3_shortIn_10 : decode cX3_shortIn 10 = .ok (.iaload, 1) := dk_46 (dk_at dksX3_shortIn_0 10 rfl rfl)
theorem dX3_shortIn_11 : decode cX3_shortIn 11 = .ok (.if_icmp .ge 18, 3) := dk_162 0 18 (dk_at dksX3_shortIn_0 11 rfl rfl)
theorem dX3_shortIn_14 : decode cX3_shortIn 14 = .ok (.iload_n 2, 1) := dk_28 (dk_at dksX3_shortIn_0 14 rfl rfl)
theorem dX3_shortIn_15 : decode cX3_shortIn 15 = .ok (.aload_n 0, 1) := dk_42 (dk_at dksX3_shortIn_0 15 rfl rfl)
theorem dX3_shortIn_16 : decode cX3_shortIn 16 = .ok (.iload_n 3, 1) := dk_29 (dk_at dksX3_shortIn_0 16 rfl rfl)
theorem dX3_shortIn_17 : decode cX3_shortIn 17 = .ok (.iload_n 1, 1) := dk_27 (dk_at dksX3_shortIn_0 17 rfl rfl)
theorem dX3_shortIn_18 : decode cX3_shortIn 18 = .ok (.invokevirtual 177, 3) := dk_182 0 177 (dk_at dksX3_shortIn_0 18 rfl rfl)
theorem dX3_shortIn_21 : decode cX3_shortIn 21 = .ok (.iadd, 1) := dk_96 (dk_at dksX3_shortIn_0 21 rfl rfl)
theorem dX3_shortIn_22 : decode cX3_shortIn 22 = .ok (.istore_n 2, 1) := dk_61 (dk_at dksX3_shortIn_0 22 rfl rfl)
theorem dX3_shortIn_23 : decode cX3_shortIn 23 = .ok (.iinc 3 1, 3) := dk_132 3 1 (dk_at dksX3_shortIn_1 0 rfl rfl)
theorem dX3_shortIn_26 : decode cX3_shortIn 26 = .ok (.goto (-22), 3) := dk_167 255 234 (dk_at dksX3_shortIn_1 3 rfl rfl)
theorem dX3_shortIn_29 : decode cX3_shortIn 29 = .ok (.iload_n 2, 1) := dk_28 (dk_at dksX3_shortIn_1 6 rfl rfl)
theorem dX3_shortIn_30 : decode cX3_shortIn 30 = .ok (.ireturn, 1) := dk_172 (dk_at dksX3_shortIn_1 7 rfl rfl)
abbrev cX3_shortOf : ByteArray := prog_9_method_38_code
def yX3_shortOf : MethodName := ⟨RX3, "shortOf", "(II)I"⟩
def dkwX3_shortOf_0 : List UInt8 := [42, 27, 28, 182, 0, 171, 42, 27, 28, 182, 0, 174, 100, 62, 29, 156, 0, 7, 3, 167, 0, 4, 29, 172]
abbrev dktX3_shortOf_0 : List UInt8 := dkwX3_shortOf_0 ++ []
theorem dksX3_shortOf_0 : cX3_shortOf.data.toList.drop 0 = dktX3_shortOf_0 := by decide +kernel
theorem dX3_shortOf_0 : decode cX3_shortOf 0 = .ok (.aload_n 0, 1) := dk_42 (dk_at dksX3_shortOf_0 0 rfl rfl)
theorem dX3_shortOf_1 : decode cX3_shortOf 1 = .ok (.iload_n 1, 1) := dk_27 (dk_at dksX3_shortOf_0 1 rfl rfl)
theorem dX3_shortOf_2 : decode cX3_shortOf 2 = .ok (.iload_n 2, 1) := dk_28 (dk_at dksX3_shortOf_0 2 rfl rfl)
theorem dX3_shortOf_3 : decode cX3_shortOf 3 = .ok (.invokevirtual 171, 3) := dk_182 0 171 (dk_at dksX3_shortOf_0 3 rfl rfl)
theorem dX3_shortOf_6 : decode cX3_shortOf 6 = .ok (.aload_n 0, 1) := dk_42 (dk_at dksX3_shortOf_0 6 rfl rfl)
theorem dX3_shortOf_7 : decode cX3_shortOf 7 = .ok (.iload_n 1, 1) := dk_27 (dk_at dksX3_shortOf_0 7 rfl rfl)
theorem dX3_shortOf_8 : decode cX3_shortOf 8 = .ok (.iload_n 2, 1) := dk_28 (dk_at dksX3_shortOf_0 8 rfl rfl)
theorem dX3_shortOf_9 : decode cX3_shortOf 9 = .ok (.invokevirtual 174, 3) := dk_182 0 174 (dk_at dksX3_shortOf_0 9 rfl rfl)
theorem dX3_shortOf_12 : decode cX3_shortOf 12 = .ok (.isub, 1) := dk_100 (dk_at dksX3_shortOf_0 12 rfl rfl)
theorem dX3_shortOf_13 : decode cX3_shortOf 13 = .ok (.istore_n 3, 1) := dk_62 (dk_at dksX3_shortOf_0 13 rfl rfl)
theorem dX3_shortOf_14 : decode cX3_shortOf 14 = .ok (.iload_n 3, 1) := dk_29 (dk_at dksX3_shortOf_0 14 rfl rfl)
theorem dX3_shortOf_15 : decode cX3_shortOf 15 = .ok (.ifCond .ge 7, 3) := dk_156 0 7 (dk_at dksX3_shortOf_0 15 rfl rfl)
theorem dX3_shortOf_18 : decode cX3_shortOf 18 = .ok (.iconst 0, 1) := dk_3 (dk_at dksX3_shortOf_0 18 rfl rfl)
theorem dX3_shortOf_19 : decode cX3_shortOf 19 = .ok (.goto 4, 3) := dk_167 0 4 (dk_at dksX3_shortOf_0 19 rfl rfl)
theorem dX3_shortOf_22 : decode cX3_shortOf 22 = .ok (.iload_n 3, 1) := dk_29 (dk_at dksX3_shortOf_0 22 rfl rfl)
theorem dX3_shortOf_23 : decode cX3_shortOf 23 = .ok (.ireturn, 1) := dk_172 (dk_at dksX3_shortOf_0 23 rfl rfl)
abbrev cX3_needOf : ByteArray := prog_9_method_34_code
def yX3_needOf : MethodName := ⟨RX3, "needOf", "(II)I"⟩
def dkwX3_needOf_0 : List UInt8 := [42, 180, 0, 74, 7, 16, 48, 27, 104, 96, 28, 96, 46, 172]
abbrev dktX3_needOf_0 : List UInt8 := dkwX3_needOf_0 ++ []
theorem dksX3_needOf_0 : cX3_needOf.data.toList.drop 0 = dktX3_needOf_0 := by decide +kernel
theorem dX3_needOf_0 : decode cX3_needOf 0 = .ok (.aload_n 0, 1) := dk_42 (dk_at dksX3_needOf_0 0 rfl rfl)
theorem dX3_needOf_1 : decode cX3_needOf 1 = .ok (.getfield 74, 3) := dk_180 0 74 (dk_at dksX3_needOf_0 1 rfl rfl)
theorem dX3_needOf_4 : decode cX3_needOf 4 = .ok (.iconst 4, 1) := dk_7 (dk_at dksX3_needOf_0 4 rfl rfl)
theorem dX3_needOf_5 : decode cX3_needOf 5 = .ok (.bipush 48, 2) := dk_16 48 (dk_at dksX3_needOf_0 5 rfl rfl)
theorem dX3_needOf_7 : decode cX3_needOf 7 = .ok (.iload_n 1, 1) := dk_27 (dk_at dksX3_needOf_0 7 rfl rfl)
theorem dX3_needOf_8 : decode cX3_needOf 8 = .ok (.imul, 1) := dk_104 (dk_at dksX3_needOf_0 8 rfl rfl)
theorem dX3_needOf_9 : decode cX3_needOf 9 = .ok (.iadd, 1) := dk_96 (dk_at dksX3_needOf_0 9 rfl rfl)
theorem dX3_needOf_10 : decode cX3_needOf 10 = .ok (.iload_n 2, 1) := dk_28 (dk_at dksX3_needOf_0 10 rfl rfl)
theorem dX3_needOf_11 : decode cX3_needOf 11 = .ok (.iadd, 1) := dk_96 (dk_at dksX3_needOf_0 11 rfl rfl)
theorem dX3_needOf_12 : decode cX3_needOf 12 = .ok (.iaload, 1) := dk_46 (dk_at dksX3_needOf_0 12 rfl rfl)
theorem dX3_needOf_13 : decode cX3_needOf 13 = .ok (.ireturn, 1) := dk_172 (dk_at dksX3_needOf_0 13 rfl rfl)
abbrev cX3_coverOf : ByteArray := prog_9_method_37_code
def yX3_coverOf : MethodName := ⟨RX3, "coverOf", "(II)I"⟩
def dkwX3_coverOf_2 : List UInt8 := [132, 3, 255, 132, 4, 1, 167, 255, 213, 29, 172]
abbrev dktX3_coverOf_2 : List UInt8 := dkwX3_coverOf_2 ++ []
def dkwX3_coverOf_1 : List UInt8 := [21, 4, 3, 182, 0, 155, 3, 182, 0, 159, 27, 160, 0, 16, 42, 21, 4, 28, 182, 0, 168, 153, 0, 6]
abbrev dktX3_coverOf_1 : List UInt8 := dkwX3_coverOf_1 ++ dktX3_coverOf_2
def dkwX3_coverOf_0 : List UInt8 := [42, 27, 28, 182, 0, 165, 62, 3, 54, 4, 21, 4, 42, 180, 0, 74, 6, 46, 162, 0, 38, 42, 42]
abbrev dktX3_coverOf_0 : List UInt8 := dkwX3_coverOf_0 ++ dktX3_coverOf_1
theorem dksX3_coverOf_0 : cX3_coverOf.data.toList.drop 0 = dktX3_coverOf_0 := by decide +kernel
theorem dksX3_coverOf_1 : cX3_coverOf.data.toList.drop 23 = dktX3_coverOf_1 := dk_seg dksX3_coverOf_0 23 rfl rfl
theorem dksX3_coverOf_2 : cX3_coverOf.data.toList.drop 47 = dktX3_coverOf_2 := dk_seg dksX3_coverOf_1 24 rfl rfl
theorem dX3_coverOf_0 : decode cX3_coverOf 0 = .ok (.aload_n 0, 1) := dk_42 (dk_at dksX3_coverOf_0 0 rfl rfl)
theorem dX3_coverOf_1 : decode cX3_coverOf 1 = .ok (.iload_n 1, 1) := dk_27 (dk_at dksX3_coverOf_0 1 rfl rfl)
theorem dX3_coverOf_2 : decode cX3_coverOf 2 = .ok (.iload_n 2, 1) := dk_28 (dk_at dksX3_coverOf_0 2 rfl rfl)
theorem dX3_coverOf_3 : decode cX3_coverOf 3 = .ok (.invokevirtual 165, 3) := dk_182 0 165 (dk_at dksX3_coverOf_0 3 rfl rfl)
theorem dX3_coverOf_6 : decode cX3_coverOf 6 = .ok (.istore_n 3, 1) := dk_62 (dk_at dksX3_coverOf_0 6 rfl rfl)
theorem dX3_coverOf_7 : decode cX3_coverOf 7 = .ok (.iconst 0, 1) := dk_3 (dk_at dksX3_coverOf_0 7 rfl rfl)
theorem dX3_coverOf_8 : decode cX3_coverOf 8 = .ok (.istore 4, 2) := dk_54 4 (dk_at dksX3_coverOf_0 8 rfl rfl)
theorem dX3_coverOf_10 : decode cX3_coverOf 10 = .ok (.iload 4, 2) := dk_21 4 (dk_at dksX3_coverOf_0 10 rfl rfl)
theorem dX3_coverOf_12 : decode cX3_coverOf 12 = .ok (.aload_n 0, 1) := dk_42 (dk_at dksX3_coverOf_0 12 rfl rfl)
theorem dX3_coverOf_13 : decode cX3_coverOf 13 = .ok (.getfield 74, 3) := dk_180 0 74 (dk_at dksX3_coverOf_0 13 rfl rfl)
theorem dX3_coverOf_16 : decode cX3_coverOf 16 = .ok (.iconst 3, 1) := dk_6 (dk_at dksX3_coverOf_0 16 rfl rfl)
theorem dX3_coverOf_17 : decode cX3_coverOf 17 = .ok (.iaload, 1) := dk_46 (dk_at dksX3_coverOf_0 17 rfl rfl)
theorem dX3_coverOf_18 : decode cX3_coverOf 18 = .ok (.if_icmp .ge 38, 3) := dk_162 0 38 (dk_at dksX3_coverOf_0 18 rfl rfl)
theorem dX3_coverOf_21 : decode cX3_coverOf 21 = .ok (.aload_n 0, 1) := dk_42 (dk_at dksX3_coverOf_0 21 rfl rfl)
theorem dX3_coverOf_22 : decode cX3_coverOf 22 = .ok (.aload_n 0, 1) := dk_42 (dk_at dksX3_coverOf_0 22 rfl rfl)
theorem dX3_coverOf_23 : decode cX3_coverOf 23 = .ok (.iload 4, 2) := dk_21 4 (dk_at dksX3_coverOf_1 0 rfl rfl)
theorem dX3_coverOf_25 : decode cX3_coverOf 25 = .ok (.iconst 0, 1) := dk_3 (dk_at dksX3_coverOf_1 2 rfl rfl)
theorem dX3_coverOf_26 : decode cX3_coverOf 26 = .ok (.invokevirtual 155, 3) := dk_182 0 155 (dk_at dksX3_coverOf_1 3 rfl rfl)
theorem dX3_coverOf_29 : decode cX3_coverOf 29 = .ok (.iconst 0, 1) := dk_3 (dk_at dksX3_coverOf_1 6 rfl rfl)
theorem dX3_coverOf_30 : decode cX3_coverOf 30 = .ok (.invokevirtual 159, 3) := dk_182 0 159 (dk_at dksX3_coverOf_1 7 rfl rfl)
theorem dX3_coverOf_33 : decode cX3_coverOf 33 = .ok (.iload_n 1, 1) := dk_27 (dk_at dksX3_coverOf_1 10 rfl rfl)
theorem dX3_coverOf_34 : decode cX3_coverOf 34 = .ok (.if_icmp .ne 16, 3) := dk_160 0 16 (dk_at dksX3_coverOf_1 11 rfl rfl)
theorem dX3_coverOf_37 : decode cX3_coverOf 37 = .ok (.aload_n 0, 1) := dk_42 (dk_at dksX3_coverOf_1 14 rfl rfl)
theorem dX3_coverOf_38 : decode cX3_coverOf 38 = .ok (.iload 4, 2) := dk_21 4 (dk_at dksX3_coverOf_1 15 rfl rfl)
theorem dX3_coverOf_40 : decode cX3_coverOf 40 = .ok (.iload_n 2, 1) := dk_28 (dk_at dksX3_coverOf_1 17 rfl rfl)
theorem dX3_coverOf_41 : decode cX3_coverOf 41 = .ok (.invokevirtual 168, 3) := dk_182 0 168 (dk_at dksX3_coverOf_1 18 rfl rfl)
theorem dX3_coverOf_44 : decode cX3_coverOf 44 = .ok (.ifCond .eq 6, 3) := dk_153 0 6 (dk_at dksX3_coverOf_1 21 rfl rfl)
theorem dX3_coverOf_47 : decode cX3_coverOf 47 = .ok (.iinc 3 (-1), 3) := dk_132 3 255 (dk_at dksX3_coverOf_2 0 rfl rfl)
theorem dX3_coverOf_50 : decode cX3_coverOf 50 = .ok (.iinc 4 1, 3) := dk_132 4 1 (dk_at dksX3_coverOf_2 3 rfl rfl)
theorem dX3_coverOf_53 : decode cX3_coverOf 53 = .ok (.goto (-43), 3) := dk_167 255 213 (dk_at dksX3_coverOf_2 6 rfl rfl)
theorem dX3_coverOf_56 : decode cX3_coverOf 56 = .ok (.iload_n 3, 1) := dk_29 (dk_at dksX3_coverOf_2 9 rfl rfl)
theorem dX3_coverOf_57 : decode cX3_coverOf 57 = .ok (.ireturn, 1) := dk_172 (dk_at dksX3_coverOf_2 10 rfl rfl)
abbrev cX3_onDuty : ByteArray := prog_9_method_35_code
def yX3_onDuty : MethodName := ⟨RX3, "onDuty", "(II)I"⟩
def dkwX3_onDuty_2 : List UInt8 := [132, 3, 1, 132, 4, 1, 167, 255, 207, 29, 172]
abbrev dktX3_onDuty_2 : List UInt8 := dkwX3_onDuty_2 ++ []
def dkwX3_onDuty_1 : List UInt8 := [160, 0, 27, 28, 42, 21, 4, 4, 182, 0, 159, 42, 21, 4, 5, 182, 0, 159, 184, 0, 102, 153, 0, 6]
abbrev dktX3_onDuty_1 : List UInt8 := dkwX3_onDuty_1 ++ dktX3_onDuty_2
def dkwX3_onDuty_0 : List UInt8 := [3, 62, 3, 54, 4, 21, 4, 42, 180, 0, 74, 5, 46, 162, 0, 44, 42, 21, 4, 3, 182, 0, 159, 27]
abbrev dktX3_onDuty_0 : List UInt8 := dkwX3_onDuty_0 ++ dktX3_onDuty_1
theorem dksX3_onDuty_0 : cX3_onDuty.data.toList.drop 0 = dktX3_onDuty_0 := by decide +kernel
theorem dksX3_onDuty_1 : cX3_onDuty.data.toList.drop 24 = dktX3_onDuty_1 := dk_seg dksX3_onDuty_0 24 rfl rfl
theorem dksX3_onDuty_2 : cX3_onDuty.data.toList.drop 48 = dktX3_onDuty_2 := dk_seg dksX3_onDuty_1 24 rfl rfl
theorem dX3_onDuty_0 : decode cX3_onDuty 0 = .ok (.iconst 0, 1) := dk_3 (dk_at dksX3_onDuty_0 0 rfl rfl)
theorem dX3_onDuty_1 : decode cX3_onDuty 1 = .ok (.istore_n 3, 1) := dk_62 (dk_at dksX3_onDuty_0 1 rfl rfl)
theorem dX3_onDuty_2 : decode cX3_onDuty 2 = .ok (.iconst 0, 1) := dk_3 (dk_at dksX3_onDuty_0 2 rfl rfl)
theorem dX3_onDuty_3 : decode cX3_onDuty 3 = .ok (.istore 4, 2) := dk_54 4 (dk_at dksX3_onDuty_0 3 rfl rfl)
theorem dX3_onDuty_5 : decode cX3_onDuty 5 = .ok (.iload 4, 2) := dk_21 4 (dk_at dksX3_onDuty_0 5 rfl rfl)
theorem dX3_onDuty_7 : decode cX3_onDuty 7 = .ok (.aload_n 0, 1) := dk_42 (dk_at dksX3_onDuty_0 7 rfl rfl)
theorem dX3_onDuty_8 : decode cX3_onDuty 8 = .ok (.getfield 74, 3) := dk_180 0 74 (dk_at dksX3_onDuty_0 8 rfl rfl)
theorem dX3_onDuty_11 : decode cX3_onDuty 11 = .ok (.iconst 2, 1) := dk_5 (dk_at dksX3_onDuty_0 11 rfl rfl)
theorem dX3_onDuty_12 : decode cX3_onDuty 12 = .ok (.iaload, 1) := dk_46 (dk_at dksX3_onDuty_0 12 rfl rfl)
theorem dX3_onDuty_13 : decode cX3_onDuty 13 = .ok (.if_icmp .ge 44, 3) := dk_162 0 44 (dk_at dksX3_onDuty_0 13 rfl rfl)
theorem dX3_onDuty_16 : decode cX3_onDuty 16 = .ok (.aload_n 0, 1) := dk_42 (dk_at dksX3_onDuty_0 16 rfl rfl)
theorem dX3_onDuty_17 : decode cX3_onDuty 17 = .ok (.iload 4, 2) := dk_21 4 (dk_at dksX3_onDuty_0 17 rfl rfl)
theorem dX3_onDuty_19 : decode cX3_onDuty 19 = .ok (.iconst 0, 1) := dk_3 (dk_at dksX3_onDuty_0 19 rfl rfl)
theorem dX3_onDuty_20 : decode cX3_onDuty 20 = .ok (.invokevirtual 159, 3) := dk_182 0 159 (dk_at dksX3_onDuty_0 20 rfl rfl)
theorem dX3_onDuty_23 : decode cX3_onDuty 23 = .ok (.iload_n 1, 1) := dk_27 (dk_at dksX3_onDuty_0 23 rfl rfl)
theorem dX3_onDuty_24 : decode cX3_onDuty 24 = .ok (.if_icmp .ne 27, 3) := dk_160 0 27 (dk_at dksX3_onDuty_1 0 rfl rfl)
theorem dX3_onDuty_27 : decode cX3_onDuty 27 = .ok (.iload_n 2, 1) := dk_28 (dk_at dksX3_onDuty_1 3 rfl rfl)
theorem dX3_onDuty_28 : decode cX3_onDuty 28 = .ok (.aload_n 0, 1) := dk_42 (dk_at dksX3_onDuty_1 4 rfl rfl)
theorem dX3_onDuty_29 : decode cX3_onDuty 29 = .ok (.iload 4, 2) := dk_21 4 (dk_at dksX3_onDuty_1 5 rfl rfl)
theorem dX3_onDuty_31 : decode cX3_onDuty 31 = .ok (.iconst 1, 1) := dk_4 (dk_at dksX3_onDuty_1 7 rfl rfl)
theorem dX3_onDuty_32 : decode cX3_onDuty 32 = .ok (.invokevirtual 159, 3) := dk_182 0 159 (dk_at dksX3_onDuty_1 8 rfl rfl)
theorem dX3_onDuty_35 : decode cX3_onDuty 35 = .ok (.aload_n 0, 1) := dk_42 (dk_at dksX3_onDuty_1 11 rfl rfl)
theorem dX3_onDuty_36 : decode cX3_onDuty 36 = .ok (.iload 4, 2) := dk_21 4 (dk_at dksX3_onDuty_1 12 rfl rfl)
theorem dX3_onDuty_38 : decode cX3_onDuty 38 = .ok (.iconst 2, 1) := dk_5 (dk_at dksX3_onDuty_1 14 rfl rfl)
theorem dX3_onDuty_39 : decode cX3_onDuty 39 = .ok (.invokevirtual 159, 3) := dk_182 0 159 (dk_at dksX3_onDuty_1 15 rfl rfl)
theorem dX3_onDuty_42 : decode cX3_onDuty 42 = .ok (.invokestatic 102, 3) := dk_184 0 102 (dk_at dksX3_onDuty_1 18 rfl rfl)
theorem dX3_onDuty_45 : decode cX3_onDuty 45 = .ok (.ifCond .eq 6, 3) := dk_153 0 6 (dk_at dksX3_onDuty_1 21 rfl rfl)
theorem dX3_onDuty_48 : decode cX3_onDuty 48 = .ok (.iinc 3 1, 3) := dk_132 3 1 (dk_at dksX3_onDuty_2 0 rfl rfl)
theorem dX3_onDuty_51 : decode cX3_onDuty 51 = .ok (.iinc 4 1, 3) := dk_132 4 1 (dk_at dksX3_onDuty_2 3 rfl rfl)
theorem dX3_onDuty_54 : decode cX3_onDuty 54 = .ok (.goto (-49), 3) := dk_167 255 207 (dk_at dksX3_onDuty_2 6 rfl rfl)
theorem dX3_onDuty_57 : decode cX3_onDuty 57 = .ok (.iload_n 3, 1) := dk_29 (dk_at dksX3_onDuty_2 9 rfl rfl)
theorem dX3_onDuty_58 : decode cX3_onDuty 58 = .ok (.ireturn, 1) := dk_172 (dk_at dksX3_onDuty_2 10 rfl rfl)
abbrev cX3_duty : ByteArray := prog_9_method_30_code
def yX3_duty : MethodName := ⟨RX3, "duty", "(II)I"⟩
def dkwX3_duty_0 : List UInt8 := [42, 180, 0, 74, 17, 0, 148, 8, 27, 104, 96, 28, 96, 46, 172]
abbrev dktX3_duty_0 : List UInt8 := dkwX3_duty_0 ++ []
theorem dksX3_duty_0 : cX3_duty.data.toList.drop 0 = dktX3_duty_0 := by decide +kernel
theorem dX3_duty_0 : decode cX3_duty 0 = .ok (.aload_n 0, 1) := dk_42 (dk_at dksX3_duty_0 0 rfl rfl)
theorem dX3_duty_1 : decode cX3_duty 1 = .ok (.getfield 74, 3) := dk_180 0 74 (dk_at dksX3_duty_0 1 rfl rfl)
theorem dX3_duty_4 : decode cX3_duty 4 = .ok (.sipush 148, 3) := dk_17 0 148 (dk_at dksX3_duty_0 4 rfl rfl)
theorem dX3_duty_7 : decode cX3_duty 7 = .ok (.iconst 5, 1) := dk_8 (dk_at dksX3_duty_0 7 rfl rfl)
theorem dX3_duty_8 : decode cX3_duty 8 = .ok (.iload_n 1, 1) := dk_27 (dk_at dksX3_duty_0 8 rfl rfl)
theorem dX3_duty_9 : decode cX3_duty 9 = .ok (.imul, 1) := dk_104 (dk_at dksX3_duty_0 9 rfl rfl)
theorem dX3_duty_10 : decode cX3_duty 10 = .ok (.iadd, 1) := dk_96 (dk_at dksX3_duty_0 10 rfl rfl)
theorem dX3_duty_11 : decode cX3_duty 11 = .ok (.iload_n 2, 1) := dk_28 (dk_at dksX3_duty_0 11 rfl rfl)
theorem dX3_duty_12 : decode cX3_duty 12 = .ok (.iadd, 1) := dk_96 (dk_at dksX3_duty_0 12 rfl rfl)
theorem dX3_duty_13 : decode cX3_duty 13 = .ok (.iaload, 1) := dk_46 (dk_at dksX3_duty_0 13 rfl rfl)
theorem dX3_duty_14 : decode cX3_duty 14 = .ok (.ireturn, 1) := dk_172 (dk_at dksX3_duty_0 14 rfl rfl)
abbrev cX3_isPausing : ByteArray := prog_9_method_36_code
def yX3_isPausing : MethodName := ⟨RX3, "isPausing", "(II)Z"⟩
def dkwX3_isPausing_1 : List UInt8 := [182, 0, 155, 96, 4, 100, 184, 0, 102, 153, 0, 7, 4, 167, 0, 4, 3, 172]
abbrev dktX3_isPausing_1 : List UInt8 := dkwX3_isPausing_1 ++ []
def dkwX3_isPausing_0 : List UInt8 := [42, 27, 182, 0, 162, 2, 159, 0, 33, 28, 42, 27, 182, 0, 162, 42, 27, 182, 0, 162, 42, 27, 4]
abbrev dktX3_isPausing_0 : List UInt8 := dkwX3_isPausing_0 ++ dktX3_isPausing_1
theorem dksX3_isPausing_0 : cX3_isPausing.data.toList.drop 0 = dktX3_isPausing_0 := by decide +kernel
theorem dksX3_isPausing_1 : cX3_isPausing.data.toList.drop 23 = dktX3_isPausing_1 := dk_seg dksX3_isPausing_0 23 rfl rfl
theorem dX3_isPausing_0 : decode cX3_isPausing 0 = .ok (.aload_n 0, 1) := dk_42 (dk_at dksX3_isPausing_0 0 rfl rfl)
theorem dX3_isPausing_1 : decode cX3_isPausing 1 = .ok (.iload_n 1, 1) := dk_27 (dk_at dksX3_isPausing_0 1 rfl rfl)
theorem dX3_isPausing_2 : decode cX3_isPausing 2 = .ok (.invokevirtual 162, 3) := dk_182 0 162 (dk_at dksX3_isPausing_0 2 rfl rfl)
theorem dX3_isPausing_5 : decode cX3_isPausing 5 = .ok (.iconst (-1), 1) := dk_2 (dk_at dksX3_isPausing_0 5 rfl rfl)
theorem dX3_isPausing_6 : decode cX3_isPausing 6 = .ok (.if_icmp .eq 33, 3) := dk_159 0 33 (dk_at dksX3_isPausing_0 6 rfl rfl)
theorem dX3_isPausing_9 : decode cX3_isPausing 9 = .ok (.iload_n 2, 1) := dk_28 (dk_at dksX3_isPausing_0 9 rfl rfl)
theorem dX3_isPausing_10 : decode cX3_isPausing 10 = .ok (.aload_n 0, 1) := dk_42 (dk_at dksX3_isPausing_0 10 rfl rfl)
theorem dX3_isPausing_11 : decode cX3_isPausing 11 = .ok (.iload_n 1, 1) := dk_27 (dk_at dksX3_isPausing_0 11 rfl rfl)
theorem dX3_isPausing_12 : decode cX3_isPausing 12 = .ok (.invokevirtual 162, 3) := dk_182 0 162 (dk_at dksX3_isPausing_0 12 rfl rfl)
theorem dX3_isPausing_15 : decode cX3_isPausing 15 = .ok (.aload_n 0, 1) := dk_42 (dk_at dksX3_isPausing_0 15 rfl rfl)
theorem dX3_isPausing_16 : decode cX3_isPausing 16 = .ok (.iload_n 1, 1) := dk_27 (dk_at dksX3_isPausing_0 16 rfl rfl)
theorem dX3_isPausing_17 : decode cX3_isPausing 17 = .ok (.invokevirtual 162, 3) := dk_182 0 162 (dk_at dksX3_isPausing_0 17 rfl rfl)
theorem dX3_isPausing_20 : decode cX3_isPausing 20 = .ok (.aload_n 0, 1) := dk_42 (dk_at dksX3_isPausing_0 20 rfl rfl)
theorem dX3_isPausing_21 : decode cX3_isPausing 21 = .ok (.iload_n 1, 1) := dk_27 (dk_at dksX3_isPausing_0 21 rfl rfl)
theorem dX3_isPausing_22 : decode cX3_isPausing 22 = .ok (.iconst 1, 1) := dk_4 (dk_at dksX3_isPausing_0 22 rfl rfl)
theorem dX3_isPausing_23 : decode cX3_isPausing 23 = .ok (.invokevirtual 155, 3) := dk_182 0 155 (dk_at dksX3_isPausing_1 0 rfl rfl)
theorem dX3_isPausing_26 : decode cX3_isPausing 26 = .ok (.iadd, 1) := dk_96 (dk_at dksX3_isPausing_1 3 rfl rfl)
theorem dX3_isPausing_27 : decode cX3_isPausing 27 = .ok (.iconst 1, 1) := dk_4 (dk_at dksX3_isPausing_1 4 rfl rfl)
theorem dX3_isPausing_28 : decode cX3_isPausing 28 = .ok (.isub, 1) := dk_100 (dk_at dksX3_isPausing_1 5 rfl rfl)
theorem dX3_isPausing_29 : decode cX3_isPausing 29 = .ok (.invokestatic 102, 3) := dk_184 0 102 (dk_at dksX3_isPausing_1 6 rfl rfl)
theorem dX3_isPausing_32 : decode cX3_isPausing 32 = .ok (.ifCond .eq 7, 3) := dk_153 0 7 (dk_at dksX3_isPausing_1 9 rfl rfl)
theorem dX3_isPausing_35 : decode cX3_isPausing 35 = .ok (.iconst 1, 1) := dk_4 (dk_at dksX3_isPausing_1 12 rfl rfl)
theorem dX3_isPausing_36 : decode cX3_isPausing 36 = .ok (.goto 4, 3) := dk_167 0 4 (dk_at dksX3_isPausing_1 13 rfl rfl)
theorem dX3_isPausing_39 : decode cX3_isPausing 39 = .ok (.iconst 0, 1) := dk_3 (dk_at dksX3_isPausing_1 16 rfl rfl)
theorem dX3_isPausing_40 : decode cX3_isPausing 40 = .ok (.ireturn, 1) := dk_172 (dk_at dksX3_isPausing_1 17 rfl rfl)
abbrev cX3_shift : ByteArray := prog_9_method_47_code
def yX3_shift : MethodName := ⟨RX3, "shift", "(II)I"⟩
def dkwX3_shift_2 : List UInt8 := [154, 0, 7, 2, 167, 0, 9, 42, 27, 28, 182, 0, 159, 172]
abbrev dktX3_shift_2 : List UInt8 := dkwX3_shift_2 ++ []
def dkwX3_shift_1 : List UInt8 := [184, 0, 102, 154, 0, 8, 42, 182, 0, 200, 172, 28, 7, 160, 0, 16, 42, 27, 6, 182, 0, 159]
abbrev dktX3_shift_1 : List UInt8 := dkwX3_shift_1 ++ dktX3_shift_2
def dkwX3_shift_0 : List UInt8 := [42, 3, 181, 0, 1, 27, 3, 42, 180, 0, 74, 5, 46, 4, 100, 184, 0, 102, 153, 0, 12, 28, 3, 7]
abbrev dktX3_shift_0 : List UInt8 := dkwX3_shift_0 ++ dktX3_shift_1
theorem dksX3_shift_0 : cX3_shift.data.toList.drop 0 = dktX3_shift_0 := by decide +kernel
theorem dksX3_shift_1 : cX3_shift.data.toList.drop 24 = dktX3_shift_1 := dk_seg dksX3_shift_0 24 rfl rfl
theorem dksX3_shift_2 : cX3_shift.data.toList.drop 46 = dktX3_shift_2 := dk_seg dksX3_shift_1 22 rfl rfl
theorem dX3_shift_0 : decode cX3_shift 0 = .ok (.aload_n 0, 1) := dk_42 (dk_at dksX3_shift_0 0 rfl rfl)
theorem dX3_shift_1 : decode cX3_shift 1 = .ok (.iconst 0, 1) := dk_3 (dk_at dksX3_shift_0 1 rfl rfl)
theorem dX3_shift_2 : decode cX3_shift 2 = .ok (.putfield 1, 3) := dk_181 0 1 (dk_at dksX3_shift_0 2 rfl rfl)
theorem dX3_shift_5 : decode cX3_shift 5 = .ok (.iload_n 1, 1) := dk_27 (dk_at dksX3_shift_0 5 rfl rfl)
theorem dX3_shift_6 : decode cX3_shift 6 = .ok (.iconst 0, 1) := dk_3 (dk_at dksX3_shift_0 6 rfl rfl)
theorem dX3_shift_7 : decode cX3_shift 7 = .ok (.aload_n 0, 1) := dk_42 (dk_at dksX3_shift_0 7 rfl rfl)
theorem dX3_shift_8 : decode cX3_shift 8 = .ok (.getfield 74, 3) := dk_180 0 74 (dk_at dksX3_shift_0 8 rfl rfl)
theorem dX3_shift_11 : decode cX3_shift 11 = .ok (.iconst 2, 1) := dk_5 (dk_at dksX3_shift_0 11 rfl rfl)
theorem dX3_shift_12 : decode cX3_shift 12 = .ok (.iaload, 1) := dk_46 (dk_at dksX3_shift_0 12 rfl rfl)
theorem dX3_shift_13 : decode cX3_shift 13 = .ok (.iconst 1, 1) := dk_4 (dk_at dksX3_shift_0 13 rfl rfl)
theorem dX3_shift_14 : decode cX3_shift 14 = .ok (.isub, 1) := dk_100 (dk_at dksX3_shift_0 14 rfl rfl)
theorem dX3_shift_15 : decode cX3_shift 15 = .ok (.invokestatic 102, 3) := dk_184 0 102 (dk_at dksX3_shift_0 15 rfl rfl)
theorem dX3_shift_18 : decode cX3_shift 18 = .ok (.ifCond .eq 12, 3) := dk_153 0 12 (dk_at dksX3_shift_0 18 rfl rfl)
theorem dX3_shift_21 : decode cX3_shift 21 = .ok (.iload_n 2, 1) := dk_28 (dk_at dksX3_shift_0 21 rfl rfl)
theorem dX3_shift_22 : decode cX3_shift 22 = .ok (.iconst 0, 1) := dk_3 (dk_at dksX3_shift_0 22 rfl rfl)
theorem dX3_shift_23 : decode cX3_shift 23 = .ok (.iconst 4, 1) := dk_7 (dk_at dksX3_shift_0 23 rfl rfl)
theorem dX3_shift_24 : decode cX3_shift 24 = .ok (.invokestatic 102, 3) := dk_184 0 102 (dk_at dksX3_shift_1 0 rfl rfl)
theorem dX3_shift_27 : decode cX3_shift 27 = .ok (.ifCond .ne 8, 3) := dk_154 0 8 (dk_at dksX3_shift_1 3 rfl rfl)
theorem dX3_shift_30 : decode cX3_shift 30 = .ok (.aload_n 0, 1) := dk_42 (dk_at dksX3_shift_1 6 rfl rfl)
theorem dX3_shift_31 : decode cX3_shift 31 = .ok (.invokevirtual 200, 3) := dk_182 0 200 (dk_at dksX3_shift_1 7 rfl rfl)
theorem dX3_shift_34 : decode cX3_shift 34 = .ok (.ireturn, 1) := dk_172 (dk_at dksX3_shift_1 10 rfl rfl)
theorem dX3_shift_35 : decode cX3_shift 35 = .ok (.iload_n 2, 1) := dk_28 (dk_at dksX3_shift_1 11 rfl rfl)
theorem dX3_shift_36 : decode cX3_shift 36 = .ok (.iconst 4, 1) := dk_7 (dk_at dksX3_shift_1 12 rfl rfl)
theorem dX3_shift_37 : decode cX3_shift 37 = .ok (.if_icmp .ne 16, 3) := dk_160 0 16 (dk_at dksX3_shift_1 13 rfl rfl)
theorem dX3_shift_40 : decode cX3_shift 40 = .ok (.aload_n 0, 1) := dk_42 (dk_at dksX3_shift_1 16 rfl rfl)
theorem dX3_shift_41 : decode cX3_shift 41 = .ok (.iload_n 1, 1) := dk_27 (dk_at dksX3_shift_1 17 rfl rfl)
theorem dX3_shift_42 : decode cX3_shift 42 = .ok (.iconst 3, 1) := dk_6 (dk_at dksX3_shift_1 18 rfl rfl)
theorem dX3_shift_43 : decode cX3_shift 43 = .ok (.invokevirtual 159, 3) := dk_182 0 159 (dk_at dksX3_shift_1 19 rfl rfl)
theorem dX3_shift_46 : decode cX3_shift 46 = .ok (.ifCond .ne 7, 3) := dk_154 0 7 (dk_at dksX3_shift_2 0 rfl rfl)
theorem dX3_shift_49 : decode cX3_shift 49 = .ok (.iconst (-1), 1) := dk_2 (dk_at dksX3_shift_2 3 rfl rfl)
theorem dX3_shift_50 : decode cX3_shift 50 = .ok (.goto 9, 3) := dk_167 0 9 (dk_at dksX3_shift_2 4 rfl rfl)
theorem dX3_shift_53 : decode cX3_shift 53 = .ok (.aload_n 0, 1) := dk_42 (dk_at dksX3_shift_2 7 rfl rfl)
theorem dX3_shift_54 : decode cX3_shift 54 = .ok (.iload_n 1, 1) := dk_27 (dk_at dksX3_shift_2 8 rfl rfl)
theorem dX3_shift_55 : decode cX3_shift 55 = .ok (.iload_n 2, 1) := dk_28 (dk_at dksX3_shift_2 9 rfl rfl)
theorem dX3_shift_56 : decode cX3_shift 56 = .ok (.invokevirtual 159, 3) := dk_182 0 159 (dk_at dksX3_shift_2 10 rfl rfl)
theorem dX3_shift_59 : decode cX3_shift 59 = .ok (.ireturn, 1) := dk_172 (dk_at dksX3_shift_2 13 rfl rfl)
abbrev cX3_refuse : ByteArray := prog_9_method_2_code
def yX3_refuse : MethodName := ⟨RX3, "refuse", "()I"⟩
def dkwX3_refuse_0 : List UInt8 := [42, 4, 181, 0, 1, 3, 172]
abbrev dktX3_refuse_0 : List UInt8 := dkwX3_refuse_0 ++ []
theorem dksX3_refuse_0 : cX3_refuse.data.toList.drop 0 = dktX3_refuse_0 := by decide +kernel
theorem dX3_refuse_0 : decode cX3_refuse 0 = .ok (.aload_n 0, 1) := dk_42 (dk_at dksX3_refuse_0 0 rfl rfl)
theorem dX3_refuse_1 : decode cX3_refuse 1 = .ok (.iconst 1, 1) := dk_4 (dk_at dksX3_refuse_0 1 rfl rfl)
theorem dX3_refuse_2 : decode cX3_refuse 2 = .ok (.putfield 1, 3) := dk_181 0 1 (dk_at dksX3_refuse_0 2 rfl rfl)
theorem dX3_refuse_5 : decode cX3_refuse 5 = .ok (.iconst 0, 1) := dk_3 (dk_at dksX3_refuse_0 5 rfl rfl)
theorem dX3_refuse_6 : decode cX3_refuse 6 = .ok (.ireturn, 1) := dk_172 (dk_at dksX3_refuse_0 6 rfl rfl)
abbrev cX3_pause : ByteArray := prog_9_method_48_code
def yX3_pause : MethodName := ⟨RX3, "pause", "(II)I"⟩
def dkwX3_pause_1 : List UInt8 := [182, 0, 200, 172, 28, 7, 160, 0, 11, 42, 27, 182, 0, 162, 167, 0, 9, 42, 27, 28, 182, 0, 155, 172]
abbrev dktX3_pause_1 : List UInt8 := dkwX3_pause_1 ++ []
def dkwX3_pause_0 : List UInt8 := [42, 3, 181, 0, 1, 42, 27, 182, 0, 203, 153, 0, 12, 28, 3, 7, 184, 0, 102, 154, 0, 8, 42]
abbrev dktX3_pause_0 : List UInt8 := dkwX3_pause_0 ++ dktX3_pause_1
theorem dksX3_pause_0 : cX3_pause.data.toList.drop 0 = dktX3_pause_0 := by decide +kernel
theorem dksX3_pause_1 : cX3_pause.data.toList.drop 23 = dktX3_pause_1 := dk_seg dksX3_pause_0 23 rfl rfl
theorem dX3_pause_0 : decode cX3_pause 0 = .ok (.aload_n 0, 1) := dk_42 (dk_at dksX3_pause_0 0 rfl rfl)
theorem dX3_pause_1 : decode cX3_pause 1 = .ok (.iconst 0, 1) := dk_3 (dk_at dksX3_pause_0 1 rfl rfl)
theorem dX3_pause_2 : decode cX3_pause 2 = .ok (.putfield 1, 3) := dk_181 0 1 (dk_at dksX3_pause_0 2 rfl rfl)
theorem dX3_pause_5 : decode cX3_pause 5 = .ok (.aload_n 0, 1) := dk_42 (dk_at dksX3_pause_0 5 rfl rfl)
theorem dX3_pause_6 : decode cX3_pause 6 = .ok (.iload_n 1, 1) := dk_27 (dk_at dksX3_pause_0 6 rfl rfl)
theorem dX3_pause_7 : decode cX3_pause 7 = .ok (.invokevirtual 203, 3) := dk_182 0 203 (dk_at dksX3_pause_0 7 rfl rfl)
theorem dX3_pause_10 : decode cX3_pause 10 = .ok (.ifCond .eq 12, 3) := dk_153 0 12 (dk_at dksX3_pause_0 10 rfl rfl)
theorem dX3_pause_13 : decode cX3_pause 13 = .ok (.iload_n 2, 1) := dk_28 (dk_at dksX3_pause_0 13 rfl rfl)
theorem dX3_pause_14 : decode cX3_pause 14 = .ok (.iconst 0, 1) := dk_3 (dk_at dksX3_pause_0 14 rfl rfl)
theorem dX3_pause_15 : decode cX3_pause 15 = .ok (.iconst 4, 1) := dk_7 (dk_at dksX3_pause_0 15 rfl rfl)
theorem dX3_pause_16 : decode cX3_pause 16 = .ok (.invokestatic 102, 3) := dk_184 0 102 (dk_at dksX3_pause_0 16 rfl rfl)
theorem dX3_pause_19 : decode cX3_pause 19 = .ok (.ifCond .ne 8, 3) := dk_154 0 8 (dk_at dksX3_pause_0 19 rfl rfl)
theorem dX3_pause_22 : decode cX3_pause 22 = .ok (.aload_n 0, 1) := dk_42 (dk_at dksX3_pause_0 22 rfl rfl)
theorem dX3_pause_23 : decode cX3_pause 23 = .ok (.invokevirtual 200, 3) := dk_182 0 200 (dk_at dksX3_pause_1 0 rfl rfl)
theorem dX3_pause_26 : decode cX3_pause 26 = .ok (.ireturn, 1) := dk_172 (dk_at dksX3_pause_1 3 rfl rfl)
theorem dX3_pause_27 : decode cX3_pause 27 = .ok (.iload_n 2, 1) := dk_28 (dk_at dksX3_pause_1 4 rfl rfl)
theorem dX3_pause_28 : decode cX3_pause 28 = .ok (.iconst 4, 1) := dk_7 (dk_at dksX3_pause_1 5 rfl rfl)
theorem dX3_pause_29 : decode cX3_pause 29 = .ok (.if_icmp .ne 11, 3) := dk_160 0 11 (dk_at dksX3_pause_1 6 rfl rfl)
theorem dX3_pause_32 : decode cX3_pause 32 = .ok (.aload_n 0, 1) := dk_42 (dk_at dksX3_pause_1 9 rfl rfl)
theorem dX3_pause_33 : decode cX3_pause 33 = .ok (.iload_n 1, 1) := dk_27 (dk_at dksX3_pause_1 10 rfl rfl)
theorem dX3_pause_34 : decode cX3_pause 34 = .ok (.invokevirtual 162, 3) := dk_182 0 162 (dk_at dksX3_pause_1 11 rfl rfl)
theorem dX3_pause_37 : decode cX3_pause 37 = .ok (.goto 9, 3) := dk_167 0 9 (dk_at dksX3_pause_1 14 rfl rfl)
theorem dX3_pause_40 : decode cX3_pause 40 = .ok (.aload_n 0, 1) := dk_42 (dk_at dksX3_pause_1 17 rfl rfl)
theorem dX3_pause_41 : decode cX3_pause 41 = .ok (.iload_n 1, 1) := dk_27 (dk_at dksX3_pause_1 18 rfl rfl)
theorem dX3_pause_42 : decode cX3_pause 42 = .ok (.iload_n 2, 1) := dk_28 (dk_at dksX3_pause_1 19 rfl rfl)
theorem dX3_pause_43 : decode cX3_pause 43 = .ok (.invokevirtual 155, 3) := dk_182 0 155 (dk_at dksX3_pause_1 20 rfl rfl)
theorem dX3_pause_46 : decode cX3_pause 46 = .ok (.ireturn, 1) := dk_172 (dk_at dksX3_pause_1 23 rfl rfl)
abbrev cX3_isPause : ByteArray := prog_9_method_29_code
def yX3_isPause : MethodName := ⟨RX3, "isPause", "(I)Z"⟩
def dkwX3_isPause_0 : List UInt8 := [27, 3, 42, 180, 0, 74, 6, 46, 4, 100, 184, 0, 102, 172]
abbrev dktX3_isPause_0 : List UInt8 := dkwX3_isPause_0 ++ []
theorem dksX3_isPause_0 : cX3_isPause.data.toList.drop 0 = dktX3_isPause_0 := by decide +kernel
theorem dX3_isPause_0 : decode cX3_isPause 0 = .ok (.iload_n 1, 1) := dk_27 (dk_at dksX3_isPause_0 0 rfl rfl)
theorem dX3_isPause_1 : decode cX3_isPause 1 = .ok (.iconst 0, 1) := dk_3 (dk_at dksX3_isPause_0 1 rfl rfl)
theorem dX3_isPause_2 : decode cX3_isPause 2 = .ok (.aload_n 0, 1) := dk_42 (dk_at dksX3_isPause_0 2 rfl rfl)
theorem dX3_isPause_3 : decode cX3_isPause 3 = .ok (.getfield 74, 3) := dk_180 0 74 (dk_at dksX3_isPause_0 3 rfl rfl)
theorem dX3_isPause_6 : decode cX3_isPause 6 = .ok (.iconst 3, 1) := dk_6 (dk_at dksX3_isPause_0 6 rfl rfl)
theorem dX3_isPause_7 : decode cX3_isPause 7 = .ok (.iaload, 1) := dk_46 (dk_at dksX3_isPause_0 7 rfl rfl)
theorem dX3_isPause_8 : decode cX3_isPause 8 = .ok (.iconst 1, 1) := dk_4 (dk_at dksX3_isPause_0 8 rfl rfl)
theorem dX3_isPause_9 : decode cX3_isPause 9 = .ok (.isub, 1) := dk_100 (dk_at dksX3_isPause_0 9 rfl rfl)
theorem dX3_isPause_10 : decode cX3_isPause 10 = .ok (.invokestatic 102, 3) := dk_184 0 102 (dk_at dksX3_isPause_0 10 rfl rfl)
theorem dX3_isPause_13 : decode cX3_isPause 13 = .ok (.ireturn, 1) := dk_172 (dk_at dksX3_isPause_0 13 rfl rfl)
abbrev cX3_slot : ByteArray := prog_9_method_49_code
def yX3_slot : MethodName := ⟨RX3, "slot", "(III)I"⟩
def dkwX3_slot_2 : List UInt8 := [167, 0, 18, 29, 5, 160, 0, 12, 42, 27, 28, 182, 0, 177, 167, 0, 4, 2, 172]
abbrev dktX3_slot_2 : List UInt8 := dkwX3_slot_2 ++ []
def dkwX3_slot_1 : List UInt8 := [154, 0, 12, 42, 27, 28, 182, 0, 171, 167, 0, 32, 29, 4, 160, 0, 12, 42, 27, 28, 182, 0, 174]
abbrev dktX3_slot_1 : List UInt8 := dkwX3_slot_1 ++ dktX3_slot_2
def dkwX3_slot_0 : List UInt8 := [42, 3, 181, 0, 1, 42, 27, 182, 0, 206, 153, 0, 10, 28, 184, 0, 209, 154, 0, 5, 2, 172, 29]
abbrev dktX3_slot_0 : List UInt8 := dkwX3_slot_0 ++ dktX3_slot_1
theorem dksX3_slot_0 : cX3_slot.data.toList.drop 0 = dktX3_slot_0 := by decide +kernel
theorem dksX3_slot_1 : cX3_slot.data.toList.drop 23 = dktX3_slot_1 := dk_seg dksX3_slot_0 23 rfl rfl
theorem dksX3_slot_2 : cX3_slot.data.toList.drop 46 = dktX3_slot_2 := dk_seg dksX3_slot_1 23 rfl rfl
theorem dX3_slot_0 : decode cX3_slot 0 = .ok (.aload_n 0, 1) := dk_42 (dk_at dksX3_slot_0 0 rfl rfl)
theorem dX3_slot_1 : decode cX3_slot 1 = .ok (.iconst 0, 1) := dk_3 (dk_at dksX3_slot_0 1 rfl rfl)
theorem dX3_slot_2 : decode cX3_slot 2 = .ok (.putfield 1, 3) := dk_181 0 1 (dk_at dksX3_slot_0 2 rfl rfl)
theorem dX3_slot_5 : decode cX3_slot 5 = .ok (.aload_n 0, 1) := dk_42 (dk_at dksX3_slot_0 5 rfl rfl)
theorem dX3_slot_6 : decode cX3_slot 6 = .ok (.iload_n 1, 1) := dk_27 (dk_at dksX3_slot_0 6 rfl rfl)
theorem dX3_slot_7 : decode cX3_slot 7 = .ok (.invokevirtual 206, 3) := dk_182 0 206 (dk_at dksX3_slot_0 7 rfl rfl)
theorem dX3_slot_10 : decode cX3_slot 10 = .ok (.ifCond .eq 10, 3) := dk_153 0 10 (dk_at dksX3_slot_0 10 rfl rfl)
theorem dX3_slot_13 : decode cX3_slot 13 = .ok (.iload_n 2, 1) := dk_28 (dk_at dksX3_slot_0 13 rfl rfl)
theorem dX3_slot_14 : decode cX3_slot 14 = .ok (.invokestatic 209, 3) := dk_184 0 209 (dk_at dksX3_slot_0 14 rfl rfl)
theorem dX3_slot_17 : decode cX3_slot 17 = .ok (.ifCond .ne 5, 3) := dk_154 0 5 (dk_at dksX3_slot_0 17 rfl rfl)
theorem dX3_slot_20 : decode cX3_slot 20 = .ok (.iconst (-1), 1) := dk_2 (dk_at dksX3_slot_0 20 rfl rfl)
theorem dX3_slot_21 : decode cX3_slot 21 = .ok (.ireturn, 1) := dk_172 (dk_at dksX3_slot_0 21 rfl rfl)
theorem dX3_slot_22 : decode cX3_slot 22 = .ok (.iload_n 3, 1) := dk_29 (dk_at dksX3_slot_0 22 rfl rfl)
theorem dX3_slot_23 : decode cX3_slot 23 = .ok (.ifCond .ne 12, 3) := dk_154 0 12 (dk_at dksX3_slot_1 0 rfl rfl)
theorem dX3_slot_26 : decode cX3_slot 26 = .ok (.aload_n 0, 1) := dk_42 (dk_at dksX3_slot_1 3 rfl rfl)
theorem dX3_slot_27 : decode cX3_slot 27 = .ok (.iload_n 1, 1) := dk_27 (dk_at dksX3_slot_1 4 rfl rfl)
theorem dX3_slot_28 : decode cX3_slot 28 = .ok (.iload_n 2, 1) := dk_28 (dk_at dksX3_slot_1 5 rfl rfl)
theorem dX3_slot_29 : decode cX3_slot 29 = .ok (.invokevirtual 171, 3) := dk_182 0 171 (dk_at dksX3_slot_1 6 rfl rfl)
theorem dX3_slot_32 : decode cX3_slot 32 = .ok (.goto 32, 3) := dk_167 0 32 (dk_at dksX3_slot_1 9 rfl rfl)
theorem dX3_slot_35 : decode cX3_slot 35 = .ok (.iload_n 3, 1) := dk_29 (dk_at dksX3_slot_1 12 rfl rfl)
theorem dX3_slot_36 : decode cX3_slot 36 = .ok (.iconst 1, 1) := dk_4 (dk_at dksX3_slot_1 13 rfl rfl)
theorem dX3_slot_37 : decode cX3_slot 37 = .ok (.if_icmp .ne 12, 3) := dk_160 0 12 (dk_at dksX3_slot_1 14 rfl rfl)
theorem dX3_slot_40 : decode cX3_slot 40 = .ok (.aload_n 0, 1) := dk_42 (dk_at dksX3_slot_1 17 rfl rfl)
theorem dX3_slot_41 : decode cX3_slot 41 = .ok (.iload_n 1, 1) := dk_27 (dk_at dksX3_slot_1 18 rfl rfl)
theorem dX3_slot_42 : decode cX3_slot 42 = .ok (.iload_n 2, 1) := dk_28 (dk_at dksX3_slot_1 19 rfl rfl)
theorem dX3_slot_43 : decode cX3_slot 43 = .ok (.invokevirtual 174, 3) := dk_182 0 174 (dk_at dksX3_slot_1 20 rfl rfl)
theorem dX3_slot_46 : decode cX3_slot 46 = .ok (.goto 18, 3) := dk_167 0 18 (dk_at dksX3_slot_2 0 rfl rfl)
theorem dX3_slot_49 : decode cX3_slot 49 = .ok (.iload_n 3, 1) := dk_29 (dk_at dksX3_slot_2 3 rfl rfl)
theorem dX3_slot_50 : decode cX3_slot 50 = .ok (.iconst 2, 1) := dk_5 (dk_at dksX3_slot_2 4 rfl rfl)
theorem dX3_slot_51 : decode cX3_slot 51 = .ok (.if_icmp .ne 12, 3) := dk_160 0 12 (dk_at dksX3_slot_2 5 rfl rfl)
theorem dX3_slot_54 : decode cX3_slot 54 = .ok (.aload_n 0, 1) := dk_42 (dk_at dksX3_slot_2 8 rfl rfl)
theorem dX3_slot_55 : decode cX3_slot 55 = .ok (.iload_n 1, 1) := dk_27 (dk_at dksX3_slot_2 9 rfl rfl)
theorem dX3_slot_56 : decode cX3_slot 56 = .ok (.iload_n 2, 1) := dk_28 (dk_at dksX3_slot_2 10 rfl rfl)
theorem dX3_slot_57 : decode cX3_slot 57 = .ok (.invokevirtual 177, 3) := dk_182 0 177 (dk_at dksX3_slot_2 11 rfl rfl)
theorem dX3_slot_60 : decode cX3_slot 60 = .ok (.goto 4, 3) := dk_167 0 4 (dk_at dksX3_slot_2 14 rfl rfl)
theorem dX3_slot_63 : decode cX3_slot 63 = .ok (.iconst (-1), 1) := dk_2 (dk_at dksX3_slot_2 17 rfl rfl)
theorem dX3_slot_64 : decode cX3_slot 64 = .ok (.ireturn, 1) := dk_172 (dk_at dksX3_slot_2 18 rfl rfl)
abbrev cX3_isPost : ByteArray := prog_9_method_27_code
def yX3_isPost : MethodName := ⟨RX3, "isPost", "(I)Z"⟩
def dkwX3_isPost_0 : List UInt8 := [27, 3, 42, 180, 0, 74, 3, 46, 4, 100, 184, 0, 102, 172]
abbrev dktX3_isPost_0 : List UInt8 := dkwX3_isPost_0 ++ []
theorem dksX3_isPost_0 : cX3_isPost.data.toList.drop 0 = dktX3_isPost_0 := by decide +kernel
theorem dX3_isPost_0 : decode cX3_isPost 0 = .ok (.iload_n 1, 1) := dk_27 (dk_at dksX3_isPost_0 0 rfl rfl)
theorem dX3_isPost_1 : decode cX3_isPost 1 = .ok (.iconst 0, 1) := dk_3 (dk_at dksX3_isPost_0 1 rfl rfl)
theorem dX3_isPost_2 : decode cX3_isPost 2 = .ok (.aload_n 0, 1) := dk_42 (dk_at dksX3_isPost_0 2 rfl rfl)
theorem dX3_isPost_3 : decode cX3_isPost 3 = .ok (.getfield 74, 3) := dk_180 0 74 (dk_at dksX3_isPost_0 3 rfl rfl)
theorem dX3_isPost_6 : decode cX3_isPost 6 = .ok (.iconst 0, 1) := dk_3 (dk_at dksX3_isPost_0 6 rfl rfl)
theorem dX3_isPost_7 : decode cX3_isPost 7 = .ok (.iaload, 1) := dk_46 (dk_at dksX3_isPost_0 7 rfl rfl)
theorem dX3_isPost_8 : decode cX3_isPost 8 = .ok (.iconst 1, 1) := dk_4 (dk_at dksX3_isPost_0 8 rfl rfl)
theorem dX3_isPost_9 : decode cX3_isPost 9 = .ok (.isub, 1) := dk_100 (dk_at dksX3_isPost_0 9 rfl rfl)
theorem dX3_isPost_10 : decode cX3_isPost 10 = .ok (.invokestatic 102, 3) := dk_184 0 102 (dk_at dksX3_isPost_0 10 rfl rfl)
theorem dX3_isPost_13 : decode cX3_isPost 13 = .ok (.ireturn, 1) := dk_172 (dk_at dksX3_isPost_0 13 rfl rfl)
abbrev cX3_isSlot : ByteArray := prog_9_method_28_code
def yX3_isSlot : MethodName := ⟨RX3, "isSlot", "(I)Z"⟩
def dkwX3_isSlot_0 : List UInt8 := [26, 3, 16, 47, 184, 0, 102, 172]
abbrev dktX3_isSlot_0 : List UInt8 := dkwX3_isSlot_0 ++ []
theorem dksX3_isSlot_0 : cX3_isSlot.data.toList.drop 0 = dktX3_isSlot_0 := by decide +kernel
theorem dX3_isSlot_0 : decode cX3_isSlot 0 = .ok (.iload_n 0, 1) := dk_26 (dk_at dksX3_isSlot_0 0 rfl rfl)
theorem dX3_isSlot_1 : decode cX3_isSlot 1 = .ok (.iconst 0, 1) := dk_3 (dk_at dksX3_isSlot_0 1 rfl rfl)
theorem dX3_isSlot_2 : decode cX3_isSlot 2 = .ok (.bipush 47, 2) := dk_16 47 (dk_at dksX3_isSlot_0 2 rfl rfl)
theorem dX3_isSlot_4 : decode cX3_isSlot 4 = .ok (.invokestatic 102, 3) := dk_184 0 102 (dk_at dksX3_isSlot_0 4 rfl rfl)
theorem dX3_isSlot_7 : decode cX3_isSlot 7 = .ok (.ireturn, 1) := dk_172 (dk_at dksX3_isSlot_0 7 rfl rfl)
abbrev cX3_why : ByteArray := prog_9_method_50_code
def yX3_why : MethodName := ⟨RX3, "why", "(II)I"⟩
def dkwX3_why_1 : List UInt8 := [182, 0, 191, 167, 0, 4, 2, 172]
abbrev dktX3_why_1 : List UInt8 := dkwX3_why_1 ++ []
def dkwX3_why_0 : List UInt8 := [42, 3, 181, 0, 1, 42, 27, 182, 0, 203, 153, 0, 19, 28, 184, 0, 209, 153, 0, 12, 42, 27, 28]
abbrev dktX3_why_0 : List UInt8 := dkwX3_why_0 ++ dktX3_why_1
theorem dksX3_why_0 : cX3_why.data.toList.drop 0 = dktX3_why_0 := by decide +kernel
theorem dksX3_why_1 : cX3_why.data.toList.drop 23 = dktX3_why_1 := dk_seg dksX3_why_0 23 rfl rfl
theorem dX3_why_0 : decode cX3_why 0 = .ok (.aload_n 0, 1) := dk_42 (dk_at dksX3_why_0 0 rfl rfl)
theorem dX3_why_1 : decode cX3_why 1 = .ok (.iconst 0, 1) := dk_3 (dk_at dksX3_why_0 1 rfl rfl)
theorem dX3_why_2 : decode cX3_why 2 = .ok (.putfield 1, 3) := dk_181 0 1 (dk_at dksX3_why_0 2 rfl rfl)
theorem dX3_why_5 : decode cX3_why 5 = .ok (.aload_n 0, 1) := dk_42 (dk_at dksX3_why_0 5 rfl rfl)
theorem dX3_why_6 : decode cX3_why 6 = .ok (.iload_n 1, 1) := dk_27 (dk_at dksX3_why_0 6 rfl rfl)
theorem dX3_why_7 : decode cX3_why 7 = .ok (.invokevirtual 203, 3) := dk_182 0 203 (dk_at dksX3_why_0 7 rfl rfl)
theorem dX3_why_10 : decode cX3_why 10 = .ok (.ifCond .eq 19, 3) := dk_153 0 19 (dk_at dksX3_why_0 10 rfl rfl)
theorem dX3_why_13 : decode cX3_why 13 = .ok (.iload_n 2, 1) := dk_28 (dk_at dksX3_why_0 13 rfl rfl)
theorem dX3_why_14 : decode cX3_why 14 = .ok (.invokestatic 209, 3) := dk_184 0 209 (dk_at dksX3_why_0 14 rfl rfl)
theorem dX3_why_17 : decode cX3_why 17 = .ok (.ifCond .eq 12, 3) := dk_153 0 12 (dk_at dksX3_why_0 17 rfl rfl)
theorem dX3_why_20 : decode cX3_why 20 = .ok (.aload_n 0, 1) := dk_42 (dk_at dksX3_why_0 20 rfl rfl)
theorem dX3_why_21 : decode cX3_why 21 = .ok (.iload_n 1, 1) := dk_27 (dk_at dksX3_why_0 21 rfl rfl)
theorem dX3_why_22 : decode cX3_why 22 = .ok (.iload_n 2, 1) := dk_28 (dk_at dksX3_why_0 22 rfl rfl)
theorem dX3_why_23 : decode cX3_why 23 = .ok (.invokevirtual 191, 3) := dk_182 0 191 (dk_at dksX3_why_1 0 rfl rfl)
theorem dX3_why_26 : decode cX3_why 26 = .ok (.goto 4, 3) := dk_167 0 4 (dk_at dksX3_why_1 3 rfl rfl)
theorem dX3_why_29 : decode cX3_why 29 = .ok (.iconst (-1), 1) := dk_2 (dk_at dksX3_why_1 6 rfl rfl)
theorem dX3_why_30 : decode cX3_why 30 = .ok (.ireturn, 1) := dk_172 (dk_at dksX3_why_1 7 rfl rfl)
abbrev cX3_whyNot : ByteArray := prog_9_method_41_code
def yX3_whyNot : MethodName := ⟨RX3, "whyNot", "(II)I"⟩
def dkwX3_whyNot_4 : List UInt8 := [163, 0, 5, 5, 172, 132, 3, 1, 167, 255, 177, 3, 172]
abbrev dktX3_whyNot_4 : List UInt8 := dkwX3_whyNot_4 ++ []
def dkwX3_whyNot_3 : List UInt8 := [42, 29, 4, 182, 0, 155, 96, 163, 0, 21, 42, 29, 182, 0, 162, 28, 42, 27, 4, 182, 0, 155, 96]
abbrev dktX3_whyNot_3 : List UInt8 := dkwX3_whyNot_3 ++ dktX3_whyNot_4
def dkwX3_whyNot_2 : List UInt8 := [182, 0, 155, 160, 0, 49, 42, 29, 182, 0, 162, 2, 160, 0, 6, 167, 0, 37, 28, 42, 29, 182, 0, 162]
abbrev dktX3_whyNot_2 : List UInt8 := dkwX3_whyNot_2 ++ dktX3_whyNot_3
def dkwX3_whyNot_1 : List UInt8 := [42, 180, 0, 74, 6, 46, 162, 0, 75, 29, 27, 159, 0, 64, 42, 29, 3, 182, 0, 155, 42, 27, 3]
abbrev dktX3_whyNot_1 : List UInt8 := dkwX3_whyNot_1 ++ dktX3_whyNot_2
def dkwX3_whyNot_0 : List UInt8 := [28, 42, 27, 5, 182, 0, 155, 42, 27, 6, 182, 0, 155, 184, 0, 102, 154, 0, 5, 4, 172, 3, 62, 29]
abbrev dktX3_whyNot_0 : List UInt8 := dkwX3_whyNot_0 ++ dktX3_whyNot_1
theorem dksX3_whyNot_0 : cX3_whyNot.data.toList.drop 0 = dktX3_whyNot_0 := by decide +kernel
theorem dksX3_whyNot_1 : cX3_whyNot.data.toList.drop 24 = dktX3_whyNot_1 := dk_seg dksX3_whyNot_0 24 rfl rfl
theorem dksX3_whyNot_2 : cX3_whyNot.data.toList.drop 47 = dktX3_whyNot_2 := dk_seg dksX3_whyNot_1 23 rfl rfl
theorem dksX3_whyNot_3 : cX3_whyNot.data.toList.drop 71 = dktX3_whyNot_3 := dk_seg dksX3_whyNot_2 24 rfl rfl
theorem dksX3_whyNot_4 : cX3_whyNot.data.toList.drop 94 = dktX3_whyNot_4 := dk_seg dksX3_whyNot_3 23 rfl rfl
theorem dX3_whyNot_0 : decode cX3_whyNot 0 = .ok (.iload_n 2, 1) := dk_28 (dk_at dksX3_whyNot_0 0 rfl rfl)
theorem dX3_whyNot_1 : decode cX3_whyNot 1 = .ok (.aload_n 0, 1) := dk_42 (dk_at dksX3_whyNot_0 1 rfl rfl)
theorem dX3_whyNot_2 : decode cX3_whyNot 2 = .ok (.iload_n 1, 1) := dk_27 (dk_at dksX3_whyNot_0 2 rfl rfl)
theorem dX3_whyNot_3 : decode cX3_whyNot 3 = .ok (.iconst 2, 1) := dk_5 (dk_at dksX3_whyNot_0 3 rfl rfl)
theorem dX3_whyNot_4 : decode cX3_whyNot 4 = .ok (.invokevirtual 155, 3) := dk_182 0 155 (dk_at dksX3_whyNot_0 4 rfl rfl)
theorem dX3_whyNot_7 : decode cX3_whyNot 7 = .ok (.aload_n 0, 1) := dk_42 (dk_at dksX3_whyNot_0 7 rfl rfl)
theorem dX3_whyNot_8 : decode cX3_whyNot 8 = .ok (.iload_n 1, 1) := dk_27 (dk_at dksX3_whyNot_0 8 rfl rfl)
theorem dX3_whyNot_9 : decode cX3_whyNot 9 = .ok (.iconst 3, 1) := dk_6 (dk_at dksX3_whyNot_0 9 rfl rfl)
theorem dX3_whyNot_10 : decode cX3_whyNot 10 = .ok (.invokevirtual 155, 3) := dk_182 0 155 (dk_at dksX3_whyNot_0 10 rfl rfl)
theorem dX3_whyNot_13 : decode cX3_whyNot 13 = .ok (.invokestatic 102, 3) := dk_184 0 102 (dk_at dksX3_whyNot_0 13 rfl rfl)
theorem dX3_whyNot_16 : decode cX3_whyNot 16 = .ok (.ifCond .ne 5, 3) := dk_154 0 5 (dk_at dksX3_whyNot_0 16 rfl rfl)
theorem dX3_whyNot_19 : decode cX3_whyNot 19 = .ok (.iconst 1, 1) := dk_4 (dk_at dksX3_whyNot_0 19 rfl rfl)
theorem dX3_whyNot_20 : decode cX3_whyNot 20 = .ok (.ireturn, 1) := dk_172 (dk_at dksX3_whyNot_0 20 rfl rfl)
theorem dX3_whyNot_21 : decode cX3_whyNot 21 = .ok (.iconst 0, 1) := dk_3 (dk_at dksX3_whyNot_0 21 rfl rfl)
theorem dX3_whyNot_22 : decode cX3_whyNot 22 = .ok (.istore_n 3, 1) := dk_62 (dk_at dksX3_whyNot_0 22 rfl rfl)
theorem dX3_whyNot_23 : decode cX3_whyNot 23 = .ok (.iload_n 3, 1) := dk_29 (dk_at dksX3_whyNot_0 23 rfl rfl)
theorem dX3_whyNot_24 : decode cX3_whyNot 24 = .ok (.aload_n 0, 1) := dk_42 (dk_at dksX3_whyNot_1 0 rfl rfl)
theorem dX3_whyNot_25 : decode cX3_whyNot 25 = .ok (.getfield 74, 3) := dk_180 0 74 (dk_at dksX3_whyNot_1 1 rfl rfl)
theorem dX3_whyNot_28 : decode cX3_whyNot 28 = .ok (.iconst 3, 1) := dk_6 (dk_at dksX3_whyNot_1 4 rfl rfl)
theorem dX3_whyNot_29 : decode cX3_whyNot 29 = .ok (.iaload, 1) := dk_46 (dk_at dksX3_whyNot_1 5 rfl rfl)
theorem dX3_whyNot_30 : decode cX3_whyNot 30 = .ok (.if_icmp .ge 75, 3) := dk_162 0 75 (dk_at dksX3_whyNot_1 6 rfl rfl)
theorem dX3_whyNot_33 : decode cX3_whyNot 33 = .ok (.iload_n 3, 1) := dk_29 (dk_at dksX3_whyNot_1 9 rfl rfl)
theorem dX3_whyNot_34 : decode cX3_whyNot 34 = .ok (.iload_n 1, 1) := dk_27 (dk_at dksX3_whyNot_1 10 rfl rfl)
theorem dX3_whyNot_35 : decode cX3_whyNot 35 = .ok (.if_icmp .eq 64, 3) := dk_159 0 64 (dk_at dksX3_whyNot_1 11 rfl rfl)
theorem dX3_whyNot_38 : decode cX3_whyNot 38 = .ok (.aload_n 0, 1) := dk_42 (dk_at dksX3_whyNot_1 14 rfl rfl)
theorem dX3_whyNot_39 : decode cX3_whyNot 39 = .ok (.iload_n 3, 1) := dk_29 (dk_at dksX3_whyNot_1 15 rfl rfl)
theorem dX3_whyNot_40 : decode cX3_whyNot 40 = .ok (.iconst 0, 1) := dk_3 (dk_at dksX3_whyNot_1 16 rfl rfl)
theorem dX3_whyNot_41 : decode cX3_whyNot 41 = .ok (.invokevirtual 155, 3) := dk_182 0 155 (dk_at dksX3_whyNot_1 17 rfl rfl)
theorem dX3_whyNot_44 : decode cX3_whyNot 44 = .ok (.aload_n 0, 1) := dk_42 (dk_at dksX3_whyNot_1 20 rfl rfl)
theorem dX3_whyNot_45 : decode cX3_whyNot 45 = .ok (.iload_n 1, 1) := dk_27 (dk_at dksX3_whyNot_1 21 rfl rfl)
theorem dX3_whyNot_46 : decode cX3_whyNot 46 = .ok (.iconst 0, 1) := dk_3 (dk_at dksX3_whyNot_1 22 rfl rfl)
theorem dX3_whyNot_47 : decode cX3_whyNot 47 = .ok (.invokevirtual 155, 3) := dk_182 0 155 (dk_at dksX3_whyNot_2 0 rfl rfl)
theorem dX3_whyNot_50 : decode cX3_whyNot 50 = .ok (.if_icmp .ne 49, 3) := dk_160 0 49 (dk_at dksX3_whyNot_2 3 rfl rfl)
theorem dX3_whyNot_53 : decode cX3_whyNot 53 = .ok (.aload_n 0, 1) := dk_42 (dk_at dksX3_whyNot_2 6 rfl rfl)
theorem dX3_whyNot_54 : decode cX3_whyNot 54 = .ok (.iload_n 3, 1) := dk_29 (dk_at dksX3_whyNot_2 7 rfl rfl)
theorem dX3_whyNot_55 : decode cX3_whyNot 55 = .ok (.invokevirtual 162, 3) := dk_182 0 162 (dk_at dksX3_whyNot_2 8 rfl rfl)
theorem dX3_whyNot_58 : decode cX3_whyNot 58 = .ok (.iconst (-1), 1) := dk_2 (dk_at dksX3_whyNot_2 11 rfl rfl)
theorem dX3_whyNot_59 : decode cX3_whyNot 59 = .ok (.if_icmp .ne 6, 3) := dk_160 0 6 (dk_at dksX3_whyNot_2 12 rfl rfl)
theorem dX3_whyNot_62 : decode cX3_whyNot 62 = .ok (.goto 37, 3) := dk_167 0 37 (dk_at dksX3_whyNot_2 15 rfl rfl)
theorem dX3_whyNot_65 : decode cX3_whyNot 65 = .ok (.iload_n 2, 1) := dk_28 (dk_at dksX3_whyNot_2 18 rfl rfl)
theorem dX3_whyNot_66 : decode cX3_whyNot 66 = .ok (.aload_n 0, 1) := dk_42 (dk_at dksX3_whyNot_2 19 rfl rfl)
theorem dX3_whyNot_67 : decode cX3_whyNot 67 = .ok (.iload_n 3, 1) := dk_29 (dk_at dksX3_whyNot_2 20 rfl rfl)
theorem dX3_whyNot_68 : decode cX3_whyNot 68 = .ok (.invokevirtual 162, 3) := dk_182 0 162 (dk_at dksX3_whyNot_2 21 rfl rfl)
theorem dX3_whyNot_71 : decode cX3_whyNot 71 = .ok (.aload_n 0, 1) := dk_42 (dk_at dksX3_whyNot_3 0 rfl rfl)
theorem dX3_whyNot_72 : decode cX3_whyNot 72 = .ok (.iload_n 3, 1) := dk_29 (dk_at dksX3_whyNot_3 1 rfl rfl)
theorem dX3_whyNot_73 : decode cX3_whyNot 73 = .ok (.iconst 1, 1) := dk_4 (dk_at dksX3_whyNot_3 2 rfl rfl)
theorem dX3_whyNot_74 : decode cX3_whyNot 74 = .ok (.invokevirtual 155, 3) := dk_182 0 155 (dk_at dksX3_whyNot_3 3 rfl rfl)
theorem dX3_whyNot_77 : decode cX3_whyNot 77 = .ok (.iadd, 1) := dk_96 (dk_at dksX3_whyNot_3 6 rfl rfl)
theorem dX3_whyNot_78 : decode cX3_whyNot 78 = .ok (.if_icmp .gt 21, 3) := dk_163 0 21 (dk_at dksX3_whyNot_3 7 rfl rfl)
theorem dX3_whyNot_81 : decode cX3_whyNot 81 = .ok (.aload_n 0, 1) := dk_42 (dk_at dksX3_whyNot_3 10 rfl rfl)
theorem dX3_whyNot_82 : decode cX3_whyNot 82 = .ok (.iload_n 3, 1) := dk_29 (dk_at dksX3_whyNot_3 11 rfl rfl)
theorem dX3_whyNot_83 : decode cX3_whyNot 83 = .ok (.invokevirtual 162, 3) := dk_182 0 162 (dk_at dksX3_whyNot_3 12 rfl rfl)
theorem dX3_whyNot_86 : decode cX3_whyNot 86 = .ok (.iload_n 2, 1) := dk_28 (dk_at dksX3_whyNot_3 15 rfl rfl)
theorem dX3_whyNot_87 : decode cX3_whyNot 87 = .ok (.aload_n 0, 1) := dk_42 (dk_at dksX3_whyNot_3 16 rfl rfl)
theorem dX3_whyNot_88 : decode cX3_whyNot 88 = .ok (.iload_n 1, 1) := dk_27 (dk_at dksX3_whyNot_3 17 rfl rfl)
theorem dX3_whyNot_89 : decode cX3_whyNot 89 = .ok (.iconst 1, 1) := dk_4 (dk_at dksX3_whyNot_3 18 rfl rfl)
theorem dX3_whyNot_90 : decode cX3_whyNot 90 = .ok (.invokevirtual 155, 3) := dk_182 0 155 (dk_at dksX3_whyNot_3 19 rfl rfl)
theorem dX3_whyNot_93 : decode cX3_whyNot 93 = .ok (.iadd, 1) := dk_96 (dk_at dksX3_whyNot_3 22 rfl rfl)
theorem dX3_whyNot_94 : decode cX3_whyNot 94 = .ok (.if_icmp .gt 5, 3) := dk_163 0 5 (dk_at dksX3_whyNot_4 0 rfl rfl)
theorem dX3_whyNot_97 : decode cX3_whyNot 97 = .ok (.iconst 2, 1) := dk_5 (dk_at dksX3_whyNot_4 3 rfl rfl)
theorem dX3_whyNot_98 : decode cX3_whyNot 98 = .ok (.ireturn, 1) := dk_172 (dk_at dksX3_whyNot_4 4 rfl rfl)
theorem dX3_whyNot_99 : decode cX3_whyNot 99 = .ok (.iinc 3 1, 3) := dk_132 3 1 (dk_at dksX3_whyNot_4 5 rfl rfl)
theorem dX3_whyNot_102 : decode cX3_whyNot 102 = .ok (.goto (-79), 3) := dk_167 255 177 (dk_at dksX3_whyNot_4 8 rfl rfl)
theorem dX3_whyNot_105 : decode cX3_whyNot 105 = .ok (.iconst 0, 1) := dk_3 (dk_at dksX3_whyNot_4 11 rfl rfl)
theorem dX3_whyNot_106 : decode cX3_whyNot 106 = .ok (.ireturn, 1) := dk_172 (dk_at dksX3_whyNot_4 12 rfl rfl)
abbrev cX3_would : ByteArray := prog_9_method_51_code
def yX3_would : MethodName := ⟨RX3, "would", "(II)I"⟩
def dkwX3_would_1 : List UInt8 := [182, 0, 191, 154, 0, 12, 42, 27, 28, 182, 0, 194, 167, 0, 4, 2, 172]
abbrev dktX3_would_1 : List UInt8 := dkwX3_would_1 ++ []
def dkwX3_would_0 : List UInt8 := [42, 3, 181, 0, 1, 42, 27, 182, 0, 203, 153, 0, 28, 28, 184, 0, 209, 153, 0, 21, 42, 27, 28]
abbrev dktX3_would_0 : List UInt8 := dkwX3_would_0 ++ dktX3_would_1
theorem dksX3_would_0 : cX3_would.data.toList.drop 0 = dktX3_would_0 := by decide +kernel
theorem dksX3_would_1 : cX3_would.data.toList.drop 23 = dktX3_would_1 := dk_seg dksX3_would_0 23 rfl rfl
theorem dX3_would_0 : decode cX3_would 0 = .ok (.aload_n 0, 1) := dk_42 (dk_at dksX3_would_0 0 rfl rfl)
theorem dX3_would_1 : decode cX3_would 1 = .ok (.iconst 0, 1) := dk_3 (dk_at dksX3_would_0 1 rfl rfl)
theorem dX3_would_2 : decode cX3_would 2 = .ok (.putfield 1, 3) := dk_181 0 1 (dk_at dksX3_would_0 2 rfl rfl)
theorem dX3_would_5 : decode cX3_would 5 = .ok (.aload_n 0, 1) := dk_42 (dk_at dksX3_would_0 5 rfl rfl)
theorem dX3_would_6 : decode cX3_would 6 = .ok (.iload_n 1, 1) := dk_27 (dk_at dksX3_would_0 6 rfl rfl)
theorem dX3_would_7 : decode cX3_would 7 = .ok (.invokevirtual 203, 3) := dk_182 0 203 (dk_at dksX3_would_0 7 rfl rfl)
theorem dX3_would_10 : decode cX3_would 10 = .ok (.ifCond .eq 28, 3) := dk_153 0 28 (dk_at dksX3_would_0 10 rfl rfl)
theorem dX3_would_13 : decode cX3_would 13 = .ok (.iload_n 2, 1) := dk_28 (dk_at dksX3_would_0 13 rfl rfl)
theorem dX3_would_14 : decode cX3_would 14 = .ok (.invokestatic 209, 3) := dk_184 0 209 (dk_at dksX3_would_0 14 rfl rfl)
theorem dX3_would_17 : decode cX3_would 17 = .ok (.ifCond .eq 21, 3) := dk_153 0 21 (dk_at dksX3_would_0 17 rfl rfl)
theorem dX3_would_20 : decode cX3_would 20 = .ok (.aload_n 0, 1) := dk_42 (dk_at dksX3_would_0 20 rfl rfl)
theorem dX3_would_21 : decode cX3_would 21 = .ok (.iload_n 1, 1) := dk_27 (dk_at dksX3_would_0 21 rfl rfl)
theorem dX3_would_22 : decode cX3_would 22 = .ok (.iload_n 2, 1) := dk_28 (dk_at dksX3_would_0 22 rfl rfl)
theorem dX3_would_23 : decode cX3_would 23 = .ok (.invokevirtual 191, 3) := dk_182 0 191 (dk_at dksX3_would_1 0 rfl rfl)
theorem dX3_would_26 : decode cX3_would 26 = .ok (.ifCond .ne 12, 3) := dk_154 0 12 (dk_at dksX3_would_1 3 rfl rfl)
theorem dX3_would_29 : decode cX3_would 29 = .ok (.aload_n 0, 1) := dk_42 (dk_at dksX3_would_1 6 rfl rfl)
theorem dX3_would_30 : decode cX3_would 30 = .ok (.iload_n 1, 1) := dk_27 (dk_at dksX3_would_1 7 rfl rfl)
theorem dX3_would_31 : decode cX3_would 31 = .ok (.iload_n 2, 1) := dk_28 (dk_at dksX3_would_1 8 rfl rfl)
theorem dX3_would_32 : decode cX3_would 32 = .ok (.invokevirtual 194, 3) := dk_182 0 194 (dk_at dksX3_would_1 9 rfl rfl)
theorem dX3_would_35 : decode cX3_would 35 = .ok (.goto 4, 3) := dk_167 0 4 (dk_at dksX3_would_1 12 rfl rfl)
theorem dX3_would_38 : decode cX3_would 38 = .ok (.iconst (-1), 1) := dk_2 (dk_at dksX3_would_1 15 rfl rfl)
theorem dX3_would_39 : decode cX3_would 39 = .ok (.ireturn, 1) := dk_172 (dk_at dksX3_would_1 16 rfl rfl)
abbrev cX3_scoreAt : ByteArray := prog_9_method_42_code
def yX3_scoreAt : MethodName := ⟨RX3, "scoreAt", "(II)I"⟩
def dkwX3_scoreAt_1 : List UInt8 := [21, 4, 172]
abbrev dktX3_scoreAt_1 : List UInt8 := dkwX3_scoreAt_1 ++ []
def dkwX3_scoreAt_0 : List UInt8 := [42, 27, 182, 0, 162, 62, 42, 27, 28, 182, 0, 183, 42, 182, 0, 187, 54, 4, 42, 27, 29, 182, 0, 183]
abbrev dktX3_scoreAt_0 : List UInt8 := dkwX3_scoreAt_0 ++ dktX3_scoreAt_1
theorem dksX3_scoreAt_0 : cX3_scoreAt.data.toList.drop 0 = dktX3_scoreAt_0 := by decide +kernel
theorem dksX3_scoreAt_1 : cX3_scoreAt.data.toList.drop 24 = dktX3_scoreAt_1 := dk_seg dksX3_scoreAt_0 24 rfl rfl
theorem dX3_scoreAt_0 : decode cX3_scoreAt 0 = .ok (.aload_n 0, 1) := dk_42 (dk_at dksX3_scoreAt_0 0 rfl rfl)
theorem dX3_scoreAt_1 : decode cX3_scoreAt 1 = .ok (.iload_n 1, 1) := dk_27 (dk_at dksX3_scoreAt_0 1 rfl rfl)
theorem dX3_scoreAt_2 : decode cX3_scoreAt 2 = .ok (.invokevirtual 162, 3) := dk_182 0 162 (dk_at dksX3_scoreAt_0 2 rfl rfl)
theorem dX3_scoreAt_5 : decode cX3_scoreAt 5 = .ok (.istore_n 3, 1) := dk_62 (dk_at dksX3_scoreAt_0 5 rfl rfl)
theorem dX3_scoreAt_6 : decode cX3_scoreAt 6 = .ok (.aload_n 0, 1) := dk_42 (dk_at dksX3_scoreAt_0 6 rfl rfl)
theorem dX3_scoreAt_7 : decode cX3_scoreAt 7 = .ok (.iload_n 1, 1) := dk_27 (dk_at dksX3_scoreAt_0 7 rfl rfl)
theorem dX3_scoreAt_8 : decode cX3_scoreAt 8 = .ok (.iload_n 2, 1) := dk_28 (dk_at dksX3_scoreAt_0 8 rfl rfl)
theorem dX3_scoreAt_9 : decode cX3_scoreAt 9 = .ok (.invokevirtual 183, 3) := dk_182 0 183 (dk_at dksX3_scoreAt_0 9 rfl rfl)
theorem dX3_scoreAt_12 : decode cX3_scoreAt 12 = .ok (.aload_n 0, 1) := dk_42 (dk_at dksX3_scoreAt_0 12 rfl rfl)
theorem dX3_scoreAt_13 : decode cX3_scoreAt 13 = .ok (.invokevirtual 187, 3) := dk_182 0 187 (dk_at dksX3_scoreAt_0 13 rfl rfl)
theorem dX3_scoreAt_16 : decode cX3_scoreAt 16 = .ok (.istore 4, 2) := dk_54 4 (dk_at dksX3_scoreAt_0 16 rfl rfl)
theorem dX3_scoreAt_18 : decode cX3_scoreAt 18 = .ok (.aload_n 0, 1) := dk_42 (dk_at dksX3_scoreAt_0 18 rfl rfl)
theorem dX3_scoreAt_19 : decode cX3_scoreAt 19 = .ok (.iload_n 1, 1) := dk_27 (dk_at dksX3_scoreAt_0 19 rfl rfl)
theorem dX3_scoreAt_20 : decode cX3_scoreAt 20 = .ok (.iload_n 3, 1) := dk_29 (dk_at dksX3_scoreAt_0 20 rfl rfl)
theorem dX3_scoreAt_21 : decode cX3_scoreAt 21 = .ok (.invokevirtual 183, 3) := dk_182 0 183 (dk_at dksX3_scoreAt_0 21 rfl rfl)
theorem dX3_scoreAt_24 : decode cX3_scoreAt 24 = .ok (.iload 4, 2) := dk_21 4 (dk_at dksX3_scoreAt_1 0 rfl rfl)
theorem dX3_scoreAt_26 : decode cX3_scoreAt 26 = .ok (.ireturn, 1) := dk_172 (dk_at dksX3_scoreAt_1 2 rfl rfl)
abbrev cX3_lies : ByteArray := prog_9_method_33_code
def yX3_lies : MethodName := ⟨RX3, "lies", "(II)V"⟩
def dkwX3_lies_0 : List UInt8 := [42, 180, 0, 74, 17, 0, 188, 8, 27, 104, 96, 7, 96, 28, 4, 96, 79, 177]
abbrev dktX3_lies_0 : List UInt8 := dkwX3_lies_0 ++ []
theorem dksX3_lies_0 : cX3_lies.data.toList.drop 0 = dktX3_lies_0 := by decide +kernel
theorem dX3_lies_0 : decode cX3_lies 0 = .ok (.aload_n 0, 1) := dk_42 (dk_at dksX3_lies_0 0 rfl rfl)
theorem dX3_lies_1 : decode cX3_lies 1 = .ok (.getfield 74, 3) := dk_180 0 74 (dk_at dksX3_lies_0 1 rfl rfl)
theorem dX3_lies_4 : decode cX3_lies 4 = .ok (.sipush 188, 3) := dk_17 0 188 (dk_at dksX3_lies_0 4 rfl rfl)
theorem dX3_lies_7 : decode cX3_lies 7 = .ok (.iconst 5, 1) := dk_8 (dk_at dksX3_lies_0 7 rfl rfl)
theorem dX3_lies_8 : decode cX3_lies 8 = .ok (.iload_n 1, 1) := dk_27 (dk_at dksX3_lies_0 8 rfl rfl)
theorem dX3_lies_9 : decode cX3_lies 9 = .ok (.imul, 1) := dk_104 (dk_at dksX3_lies_0 9 rfl rfl)
theorem dX3_lies_10 : decode cX3_lies 10 = .ok (.iadd, 1) := dk_96 (dk_at dksX3_lies_0 10 rfl rfl)
theorem dX3_lies_11 : decode cX3_lies 11 = .ok (.iconst 4, 1) := dk_7 (dk_at dksX3_lies_0 11 rfl rfl)
theorem dX3_lies_12 : decode cX3_lies 12 = .ok (.iadd, 1) := dk_96 (dk_at dksX3_lies_0 12 rfl rfl)
theorem dX3_lies_13 : decode cX3_lies 13 = .ok (.iload_n 2, 1) := dk_28 (dk_at dksX3_lies_0 13 rfl rfl)
theorem dX3_lies_14 : decode cX3_lies 14 = .ok (.iconst 1, 1) := dk_4 (dk_at dksX3_lies_0 14 rfl rfl)
theorem dX3_lies_15 : decode cX3_lies 15 = .ok (.iadd, 1) := dk_96 (dk_at dksX3_lies_0 15 rfl rfl)
theorem dX3_lies_16 : decode cX3_lies 16 = .ok (.iastore, 1) := dk_79 (dk_at dksX3_lies_0 16 rfl rfl)
theorem dX3_lies_17 : decode cX3_lies 17 = .ok (.return_, 1) := dk_177 (dk_at dksX3_lies_0 17 rfl rfl)
abbrev cX3_best : ByteArray := prog_9_method_52_code
def yX3_best : MethodName := ⟨RX3, "best", "(I)I"⟩
def dkwX3_best_0 : List UInt8 := [42, 3, 181, 0, 1, 42, 27, 182, 0, 203, 153, 0, 11, 42, 27, 182, 0, 212, 167, 0, 4, 2, 172]
abbrev dktX3_best_0 : List UInt8 := dkwX3_best_0 ++ []
theorem dksX3_best_0 : cX3_best.data.toList.drop 0 = dktX3_best_0 := by decide +kernel
theorem dX3_best_0 : decode cX3_best 0 = .ok (.aload_n 0, 1) := dk_42 (dk_at dksX3_best_0 0 rfl rfl)
theorem dX3_best_1 : decode cX3_best 1 = .ok (.iconst 0, 1) := dk_3 (dk_at dksX3_best_0 1 rfl rfl)
theorem dX3_best_2 : decode cX3_best 2 = .ok (.putfield 1, 3) := dk_181 0 1 (dk_at dksX3_best_0 2 rfl rfl)
theorem dX3_best_5 : decode cX3_best 5 = .ok (.aload_n 0, 1) := dk_42 (dk_at dksX3_best_0 5 rfl rfl)
theorem dX3_best_6 : decode cX3_best 6 = .ok (.iload_n 1, 1) := dk_27 (dk_at dksX3_best_0 6 rfl rfl)
theorem dX3_best_7 : decode cX3_best 7 = .ok (.invokevirtual 203, 3) := dk_182 0 203 (dk_at dksX3_best_0 7 rfl rfl)
theorem dX3_best_10 : decode cX3_best 10 = .ok (.ifCond .eq 11, 3) := dk_153 0 11 (dk_at dksX3_best_0 10 rfl rfl)
theorem dX3_best_13 : decode cX3_best 13 = .ok (.aload_n 0, 1) := dk_42 (dk_at dksX3_best_0 13 rfl rfl)
theorem dX3_best_14 : decode cX3_best 14 = .ok (.iload_n 1, 1) := dk_27 (dk_at dksX3_best_0 14 rfl rfl)
theorem dX3_best_15 : decode cX3_best 15 = .ok (.invokevirtual 212, 3) := dk_182 0 212 (dk_at dksX3_best_0 15 rfl rfl)
theorem dX3_best_18 : decode cX3_best 18 = .ok (.goto 4, 3) := dk_167 0 4 (dk_at dksX3_best_0 18 rfl rfl)
theorem dX3_best_21 : decode cX3_best 21 = .ok (.iconst (-1), 1) := dk_2 (dk_at dksX3_best_0 21 rfl rfl)
theorem dX3_best_22 : decode cX3_best 22 = .ok (.ireturn, 1) := dk_172 (dk_at dksX3_best_0 22 rfl rfl)
abbrev cX3_bestOf : ByteArray := prog_9_method_43_code
def yX3_bestOf : MethodName := ⟨RX3, "bestOf", "(I)I"⟩
def dkwX3_bestOf_3 : List UInt8 := [167, 255, 199, 28, 172]
abbrev dktX3_bestOf_3 : List UInt8 := dkwX3_bestOf_3 ++ []
def dkwX3_bestOf_2 : List UInt8 := [16, 254, 159, 0, 12, 21, 5, 29, 161, 0, 6, 167, 0, 9, 21, 5, 62, 21, 4, 61, 132, 4, 1]
abbrev dktX3_bestOf_2 : List UInt8 := dkwX3_bestOf_2 ++ dktX3_bestOf_3
def dkwX3_bestOf_1 : List UInt8 := [42, 27, 21, 4, 182, 0, 191, 158, 0, 6, 167, 0, 33, 42, 27, 21, 4, 182, 0, 194, 54, 5, 28]
abbrev dktX3_bestOf_1 : List UInt8 := dkwX3_bestOf_1 ++ dktX3_bestOf_2
def dkwX3_bestOf_0 : List UInt8 := [16, 254, 61, 3, 62, 42, 27, 5, 182, 0, 155, 54, 4, 21, 4, 42, 27, 6, 182, 0, 155, 163, 0, 52]
abbrev dktX3_bestOf_0 : List UInt8 := dkwX3_bestOf_0 ++ dktX3_bestOf_1
theorem dksX3_bestOf_0 : cX3_bestOf.data.toList.drop 0 = dktX3_bestOf_0 := by decide +kernel
theorem dksX3_bestOf_1 : cX3_bestOf.data.toList.drop 24 = dktX3_bestOf_1 := dk_seg dksX3_bestOf_0 24 rfl rfl
theorem dksX3_bestOf_2 : cX3_bestOf.data.toList.drop 47 = dktX3_bestOf_2 := dk_seg dksX3_bestOf_1 23 rfl rfl
theorem dksX3_bestOf_3 : cX3_bestOf.data.toList.drop 70 = dktX3_bestOf_3 := dk_seg dksX3_bestOf_2 23 rfl rfl
theorem dX3_bestOf_0 : decode cX3_bestOf 0 = .ok (.bipush (-2), 2) := dk_16 254 (dk_at dksX3_bestOf_0 0 rfl rfl)
theorem dX3_bestOf_2 : decode cX3_bestOf 2 = .ok (.istore_n 2, 1) := dk_61 (dk_at dksX3_bestOf_0 2 rfl rfl)
theorem dX3_bestOf_3 : decode cX3_bestOf 3 = .ok (.iconst 0, 1) := dk_3 (dk_at dksX3_bestOf_0 3 rfl rfl)
theorem dX3_bestOf_4 : decode cX3_bestOf 4 = .ok (.istore_n 3, 1) := dk_62 (dk_at dksX3_bestOf_0 4 rfl rfl)
theorem dX3_bestOf_5 : decode cX3_bestOf 5 = .ok (.aload_n 0, 1) := dk_42 (dk_at dksX3_bestOf_0 5 rfl rfl)
theorem dX3_bestOf_6 : decode cX3_bestOf 6 = .ok (.iload_n 1, 1) := dk_27 (dk_at dksX3_bestOf_0 6 rfl rfl)
theorem dX3_bestOf_7 : decode cX3_bestOf 7 = .ok (.iconst 2, 1) := dk_5 (dk_at dksX3_bestOf_0 7 rfl rfl)
theorem dX3_bestOf_8 : decode cX3_bestOf 8 = .ok (.invokevirtual 155, 3) := dk_182 0 155 (dk_at dksX3_bestOf_0 8 rfl rfl)
theorem dX3_bestOf_11 : decode cX3_bestOf 11 = .ok (.istore 4, 2) := dk_54 4 (dk_at dksX3_bestOf_0 11 rfl rfl)
theorem dX3_bestOf_13 : decode cX3_bestOf 13 = .ok (.iload 4, 2) := dk_21 4 (dk_at dksX3_bestOf_0 13 rfl rfl)
theorem dX3_bestOf_15 : decode cX3_bestOf 15 = .ok (.aload_n 0, 1) := dk_42 (dk_at dksX3_bestOf_0 15 rfl rfl)
theorem dX3_bestOf_16 : decode cX3_bestOf 16 = .ok (.iload_n 1, 1) := dk_27 (dk_at dksX3_bestOf_0 16 rfl rfl)
theorem dX3_bestOf_17 : decode cX3_bestOf 17 = .ok (.iconst 3, 1) := dk_6 (dk_at dksX3_bestOf_0 17 rfl rfl)
theorem dX3_bestOf_18 : decode cX3_bestOf 18 = .ok (.invokevirtual 155, 3) := dk_182 0 155 (dk_at dksX3_bestOf_0 18 rfl rfl)
theorem dX3_bestOf_21 : decode cX3_bestOf 21 = .ok (.if_icmp .gt 52, 3) := dk_163 0 52 (dk_at dksX3_bestOf_0 21 rfl rfl)
theorem dX3_bestOf_24 : decode cX3_bestOf 24 = .ok (.aload_n 0, 1) := dk_42 (dk_at dksX3_bestOf_1 0 rfl rfl)
theorem dX3_bestOf_25 : decode cX3_bestOf 25 = .ok (.iload_n 1, 1) := dk_27 (dk_at dksX3_bestOf_1 1 rfl rfl)
theorem dX3_bestOf_26 : decode cX3_bestOf 26 = .ok (.iload 4, 2) := dk_21 4 (dk_at dksX3_bestOf_1 2 rfl rfl)
theorem dX3_bestOf_28 : decode cX3_bestOf 28 = .ok (.invokevirtual 191, 3) := dk_182 0 191 (dk_at dksX3_bestOf_1 4 rfl rfl)
theorem dX3_bestOf_31 : decode cX3_bestOf 31 = .ok (.ifCond .le 6, 3) := dk_158 0 6 (dk_at dksX3_bestOf_1 7 rfl rfl)
theorem dX3_bestOf_34 : decode cX3_bestOf 34 = .ok (.goto 33, 3) := dk_167 0 33 (dk_at dksX3_bestOf_1 10 rfl rfl)
theorem dX3_bestOf_37 : decode cX3_bestOf 37 = .ok (.aload_n 0, 1) := dk_42 (dk_at dksX3_bestOf_1 13 rfl rfl)
theorem dX3_bestOf_38 : decode cX3_bestOf 38 = .ok (.iload_n 1, 1) := dk_27 (dk_at dksX3_bestOf_1 14 rfl rfl)
theorem dX3_bestOf_39 : decode cX3_bestOf 39 = .ok (.iload 4, 2) := dk_21 4 (dk_at dksX3_bestOf_1 15 rfl rfl)
theorem dX3_bestOf_41 : decode cX3_bestOf 41 = .ok (.invokevirtual 194, 3) := dk_182 0 194 (dk_at dksX3_bestOf_1 17 rfl rfl)
theorem dX3_bestOf_44 : decode cX3_bestOf 44 = .ok (.istore 5, 2) := dk_54 5 (dk_at dksX3_bestOf_1 20 rfl rfl)
theorem dX3_bestOf_46 : decode cX3_bestOf 46 = .ok (.iload_n 2, 1) := dk_28 (dk_at dksX3_bestOf_1 22 rfl rfl)
theorem dX3_bestOf_47 : decode cX3_bestOf 47 = .ok (.bipush (-2), 2) := dk_16 254 (dk_at dksX3_bestOf_2 0 rfl rfl)
theorem dX3_bestOf_49 : decode cX3_bestOf 49 = .ok (.if_icmp .eq 12, 3) := dk_159 0 12 (dk_at dksX3_bestOf_2 2 rfl rfl)
theorem dX3_bestOf_52 : decode cX3_bestOf 52 = .ok (.iload 5, 2) := dk_21 5 (dk_at dksX3_bestOf_2 5 rfl rfl)
theorem dX3_bestOf_54 : decode cX3_bestOf 54 = .ok (.iload_n 3, 1) := dk_29 (dk_at dksX3_bestOf_2 7 rfl rfl)
theorem dX3_bestOf_55 : decode cX3_bestOf 55 = .ok (.if_icmp .lt 6, 3) := dk_161 0 6 (dk_at dksX3_bestOf_2 8 rfl rfl)
theorem dX3_bestOf_58 : decode cX3_bestOf 58 = .ok (.goto 9, 3) := dk_167 0 9 (dk_at dksX3_bestOf_2 11 rfl rfl)
theorem dX3_bestOf_61 : decode cX3_bestOf 61 = .ok (.iload 5, 2) := dk_21 5 (dk_at dksX3_bestOf_2 14 rfl rfl)
theorem dX3_bestOf_63 : decode cX3_bestOf 63 = .ok (.istore_n 3, 1) := dk_62 (dk_at dksX3_bestOf_2 16 rfl rfl)
theorem dX3_bestOf_64 : decode cX3_bestOf 64 = .ok (.iload 4, 2) := dk_21 4 (dk_at dksX3_bestOf_2 17 rfl rfl)
theorem dX3_bestOf_66 : decode cX3_bestOf 66 = .ok (.istore_n 2, 1) := dk_61 (dk_at dksX3_bestOf_2 19 rfl rfl)
theorem dX3_bestOf_67 : decode cX3_bestOf 67 = .ok (.iinc 4 1, 3) := dk_132 4 1 (dk_at dksX3_bestOf_2 20 rfl rfl)
theorem dX3_bestOf_70 : decode cX3_bestOf 70 = .ok (.goto (-57), 3) := dk_167 255 199 (dk_at dksX3_bestOf_3 0 rfl rfl)
theorem dX3_bestOf_73 : decode cX3_bestOf 73 = .ok (.iload_n 2, 1) := dk_28 (dk_at dksX3_bestOf_3 3 rfl rfl)
theorem dX3_bestOf_74 : decode cX3_bestOf 74 = .ok (.ireturn, 1) := dk_172 (dk_at dksX3_bestOf_3 4 rfl rfl)
abbrev cX3_better : ByteArray := prog_9_method_53_code
def yX3_better : MethodName := ⟨RX3, "better", "()I"⟩
def dkwX3_better_0 : List UInt8 := [42, 3, 181, 0, 1, 42, 182, 0, 215, 172]
abbrev dktX3_better_0 : List UInt8 := dkwX3_better_0 ++ []
theorem dksX3_better_0 : cX3_better.data.toList.drop 0 = dktX3_better_0 := by decide +kernel
theorem dX3_better_0 : decode cX3_better 0 = .ok (.aload_n 0, 1) := dk_42 (dk_at dksX3_better_0 0 rfl rfl)
theorem dX3_better_1 : decode cX3_better 1 = .ok (.iconst 0, 1) := dk_3 (dk_at dksX3_better_0 1 rfl rfl)
theorem dX3_better_2 : decode cX3_better 2 = .ok (.putfield 1, 3) := dk_181 0 1 (dk_at dksX3_better_0 2 rfl rfl)
theorem dX3_better_5 : decode cX3_better 5 = .ok (.aload_n 0, 1) := dk_42 (dk_at dksX3_better_0 5 rfl rfl)
theorem dX3_better_6 : decode cX3_better 6 = .ok (.invokevirtual 215, 3) := dk_182 0 215 (dk_at dksX3_better_0 6 rfl rfl)
theorem dX3_better_9 : decode cX3_better 9 = .ok (.ireturn, 1) := dk_172 (dk_at dksX3_better_0 9 rfl rfl)
abbrev cX3_betterNow : ByteArray := prog_9_method_44_code
def yX3_betterNow : MethodName := ⟨RX3, "betterNow", "()I"⟩
def dkwX3_betterNow_4 : List UInt8 := [16, 100, 29, 104, 21, 4, 96, 61, 132, 4, 1, 167, 255, 181, 132, 3, 1, 167, 255, 157, 28, 172]
abbrev dktX3_betterNow_4 : List UInt8 := dkwX3_betterNow_4 ++ []
def dkwX3_betterNow_3 : List UInt8 := [167, 0, 32, 42, 29, 21, 4, 182, 0, 194, 54, 5, 21, 5, 27, 161, 0, 6, 167, 0, 14, 21, 5, 60]
abbrev dktX3_betterNow_3 : List UInt8 := dkwX3_betterNow_3 ++ dktX3_betterNow_4
def dkwX3_betterNow_2 : List UInt8 := [159, 0, 61, 21, 4, 42, 29, 182, 0, 162, 159, 0, 45, 42, 29, 21, 4, 182, 0, 191, 158, 0, 6]
abbrev dktX3_betterNow_2 : List UInt8 := dkwX3_betterNow_2 ++ dktX3_betterNow_3
def dkwX3_betterNow_1 : List UInt8 := [182, 0, 155, 54, 4, 21, 4, 42, 29, 6, 182, 0, 155, 163, 0, 70, 42, 29, 182, 0, 162, 2]
abbrev dktX3_betterNow_1 : List UInt8 := dkwX3_betterNow_1 ++ dktX3_betterNow_2
def dkwX3_betterNow_0 : List UInt8 := [42, 182, 0, 187, 60, 16, 254, 61, 3, 62, 29, 42, 180, 0, 74, 6, 46, 162, 0, 95, 42, 29, 5]
abbrev dktX3_betterNow_0 : List UInt8 := dkwX3_betterNow_0 ++ dktX3_betterNow_1
theorem dksX3_betterNow_0 : cX3_betterNow.data.toList.drop 0 = dktX3_betterNow_0 := by decide +kernel
theorem dksX3_betterNow_1 : cX3_betterNow.data.toList.drop 23 = dktX3_betterNow_1 := dk_seg dksX3_betterNow_0 23 rfl rfl
theorem dksX3_betterNow_2 : cX3_betterNow.data.toList.drop 45 = dktX3_betterNow_2 := dk_seg dksX3_betterNow_1 22 rfl rfl
theorem dksX3_betterNow_3 : cX3_betterNow.data.toList.drop 68 = dktX3_betterNow_3 := dk_seg dksX3_betterNow_2 23 rfl rfl
theorem dksX3_betterNow_4 : cX3_betterNow.data.toList.drop 92 = dktX3_betterNow_4 := dk_seg dksX3_betterNow_3 24 rfl rfl
theorem dX3_betterNow_0 : decode cX3_betterNow 0 = .ok (.aload_n 0, 1) := dk_42 (dk_at dksX3_betterNow_0 0 rfl rfl)
theorem dX3_betterNow_1 : decode cX3_betterNow 1 = .ok (.invokevirtual 187, 3) := dk_182 0 187 (dk_at dksX3_betterNow_0 1 rfl rfl)
theorem dX3_betterNow_4 : decode cX3_betterNow 4 = .ok (.istore_n 1, 1) := dk_60 (dk_at dksX3_betterNow_0 4 rfl rfl)
theorem dX3_betterNow_5 : decode cX3_betterNow 5 = .ok (.bipush (-2), 2) := dk_16 254 (dk_at dksX3_betterNow_0 5 rfl rfl)
theorem dX3_betterNow_7 : decode cX3_betterNow 7 = .ok (.istore_n 2, 1) := dk_61 (dk_at dksX3_betterNow_0 7 rfl rfl)
theorem dX3_betterNow_8 : decode cX3_betterNow 8 = .ok (.iconst 0, 1) := dk_3 (dk_at dksX3_betterNow_0 8 rfl rfl)
theorem dX3_betterNow_9 : decode cX3_betterNow 9 = .ok (.istore_n 3, 1) := dk_62 (dk_at dksX3_betterNow_0 9 rfl rfl)
theorem dX3_betterNow_10 : decode cX3_betterNow 10 = .ok (.iload_n 3, 1) := dk_29 (dk_at dksX3_betterNow_0 10 rfl rfl)
theorem dX3_betterNow_11 : decode cX3_betterNow 11 = .ok (.aload_n 0, 1) := dk_42 (dk_at dksX3_betterNow_0 11 rfl rfl)
theorem dX3_betterNow_12 : decode cX3_betterNow 12 = .ok (.getfield 74, 3) := dk_180 0 74 (dk_at dksX3_betterNow_0 12 rfl rfl)
theorem dX3_betterNow_15 : decode cX3_betterNow 15 = .ok (.iconst 3, 1) := dk_6 (dk_at dksX3_betterNow_0 15 rfl rfl)
theorem dX3_betterNow_16 : decode cX3_betterNow 16 = .ok (.iaload, 1) := dk_46 (dk_at dksX3_betterNow_0 16 rfl rfl)
theorem dX3_betterNow_17 : decode cX3_betterNow 17 = .ok (.if_icmp .ge 95, 3) := dk_162 0 95 (dk_at dksX3_betterNow_0 17 rfl rfl)
theorem dX3_betterNow_20 : decode cX3_betterNow 20 = .ok (.aload_n 0, 1) := dk_42 (dk_at dksX3_betterNow_0 20 rfl rfl)
theorem dX3_betterNow_21 : decode cX3_betterNow 21 = .ok (.iload_n 3, 1) := dk_29 (dk_at dksX3_betterNow_0 21 rfl rfl)
theorem dX3_betterNow_22 : decode cX3_betterNow 22 = .ok (.iconst 2, 1) := dk_5 (dk_at dksX3_betterNow_0 22 rfl rfl)
theorem dX3_betterNow_23 : decode cX3_betterNow 23 = .ok (.invokevirtual 155, 3) := dk_182 0 155 (dk_at dksX3_betterNow_1 0 rfl rfl)
theorem dX3_betterNow_26 : decode cX3_betterNow 26 = .ok (.istore 4, 2) := dk_54 4 (dk_at dksX3_betterNow_1 3 rfl rfl)
theorem dX3_betterNow_28 : decode cX3_betterNow 28 = .ok (.iload 4, 2) := dk_21 4 (dk_at dksX3_betterNow_1 5 rfl rfl)
theorem dX3_betterNow_30 : decode cX3_betterNow 30 = .ok (.aload_n 0, 1) := dk_42 (dk_at dksX3_betterNow_1 7 rfl rfl)
theorem dX3_betterNow_31 : decode cX3_betterNow 31 = .ok (.iload_n 3, 1) := dk_29 (dk_at dksX3_betterNow_1 8 rfl rfl)
theorem dX3_betterNow_32 : decode cX3_betterNow 32 = .ok (.iconst 3, 1) := dk_6 (dk_at dksX3_betterNow_1 9 rfl rfl)
theorem dX3_betterNow_33 : decode cX3_betterNow 33 = .ok (.invokevirtual 155, 3) := dk_182 0 155 (dk_at dksX3_betterNow_1 10 rfl rfl)
theorem dX3_betterNow_36 : decode cX3_betterNow 36 = .ok (.if_icmp .gt 70, 3) := dk_163 0 70 (dk_at dksX3_betterNow_1 13 rfl rfl)
theorem dX3_betterNow_39 : decode cX3_betterNow 39 = .ok (.aload_n 0, 1) := dk_42 (dk_at dksX3_betterNow_1 16 rfl rfl)
theorem dX3_betterNow_40 : decode cX3_betterNow 40 = .ok (.iload_n 3, 1) := dk_29 (dk_at dksX3_betterNow_1 17 rfl rfl)
theorem dX3_betterNow_41 : decode cX3_betterNow 41 = .ok (.invokevirtual 162, 3) := dk_182 0 162 (dk_at dksX3_betterNow_1 18 rfl rfl)
theorem dX3_betterNow_44 : decode cX3_betterNow 44 = .ok (.iconst (-1), 1) := dk_2 (dk_at dksX3_betterNow_1 21 rfl rfl)
theorem dX3_betterNow_45 : decode cX3_betterNow 45 = .ok (.if_icmp .eq 61, 3) := dk_159 0 61 (dk_at dksX3_betterNow_2 0 rfl rfl)
theorem dX3_betterNow_48 : decode cX3_betterNow 48 = .ok (.iload 4, 2) := dk_21 4 (dk_at dksX3_betterNow_2 3 rfl rfl)
theorem dX3_betterNow_50 : decode cX3_betterNow 50 = .ok (.aload_n 0, 1) := dk_42 (dk_at dksX3_betterNow_2 5 rfl rfl)
theorem dX3_betterNow_51 : decode cX3_betterNow 51 = .ok (.iload_n 3, 1) := dk_29 (dk_at dksX3_betterNow_2 6 rfl rfl)
theorem dX3_betterNow_52 : decode cX3_betterNow 52 = .ok (.invokevirtual 162, 3) := dk_182 0 162 (dk_at dksX3_betterNow_2 7 rfl rfl)
theorem dX3_betterNow_55 : decode cX3_betterNow 55 = .ok (.if_icmp .eq 45, 3) := dk_159 0 45 (dk_at dksX3_betterNow_2 10 rfl rfl)
theorem dX3_betterNow_58 : decode cX3_betterNow 58 = .ok (.aload_n 0, 1) := dk_42 (dk_at dksX3_betterNow_2 13 rfl rfl)
theorem dX3_betterNow_59 : decode cX3_betterNow 59 = .ok (.iload_n 3, 1) := dk_29 (dk_at dksX3_betterNow_2 14 rfl rfl)
theorem dX3_betterNow_60 : decode cX3_betterNow 60 = .ok (.iload 4, 2) := dk_21 4 (dk_at dksX3_betterNow_2 15 rfl rfl)
theorem dX3_betterNow_62 : decode cX3_betterNow 62 = .ok (.invokevirtual 191, 3) := dk_182 0 191 (dk_at dksX3_betterNow_2 17 rfl rfl)
theorem dX3_betterNow_65 : decode cX3_betterNow 65 = .ok (.ifCond .le 6, 3) := dk_158 0 6 (dk_at dksX3_betterNow_2 20 rfl rfl)
theorem dX3_betterNow_68 : decode cX3_betterNow 68 = .ok (.goto 32, 3) := dk_167 0 32 (dk_at dksX3_betterNow_3 0 rfl rfl)
theorem dX3_betterNow_71 : decode cX3_betterNow 71 = .ok (.aload_n 0, 1) := dk_42 (dk_at dksX3_betterNow_3 3 rfl rfl)
theorem dX3_betterNow_72 : decode cX3_betterNow 72 = .ok (.iload_n 3, 1) := dk_29 (dk_at dksX3_betterNow_3 4 rfl rfl)
theorem dX3_betterNow_73 : decode cX3_betterNow 73 = .ok (.iload 4, 2) := dk_21 4 (dk_at dksX3_betterNow_3 5 rfl rfl)
theorem dX3_betterNow_75 : decode cX3_betterNow 75 = .ok (.invokevirtual 194, 3) := dk_182 0 194 (dk_at dksX3_betterNow_3 7 rfl rfl)
theorem dX3_betterNow_78 : decode cX3_betterNow 78 = .ok (.istore 5, 2) := dk_54 5 (dk_at dksX3_betterNow_3 10 rfl rfl)
theorem dX3_betterNow_80 : decode cX3_betterNow 80 = .ok (.iload 5, 2) := dk_21 5 (dk_at dksX3_betterNow_3 12 rfl rfl)
theorem dX3_betterNow_82 : decode cX3_betterNow 82 = .ok (.iload_n 1, 1) := dk_27 (dk_at dksX3_betterNow_3 14 rfl rfl)
theorem dX3_betterNow_83 : decode cX3_betterNow 83 = .ok (.if_icmp .lt 6, 3) := dk_161 0 6 (dk_at dksX3_betterNow_3 15 rfl rfl)
theorem dX3_betterNow_86 : decode cX3_betterNow 86 = .ok (.goto 14, 3) := dk_167 0 14 (dk_at dksX3_betterNow_3 18 rfl rfl)
theorem dX3_betterNow_89 : decode cX3_betterNow 89 = .ok (.iload 5, 2) := dk_21 5 (dk_at dksX3_betterNow_3 21 rfl rfl)
theorem dX3_betterNow_91 : decode cX3_betterNow 91 = .ok (.istore_n 1, 1) := dk_60 (dk_at dksX3_betterNow_3 23 rfl rfl)
theorem dX3_betterNow_92 : decode cX3_betterNow 92 = .ok (.bipush 100, 2) := dk_16 100 (dk_at dksX3_betterNow_4 0 rfl rfl)
theorem dX3_betterNow_94 : decode cX3_betterNow 94 = .ok (.iload_n 3, 1) := dk_29 (dk_at dksX3_betterNow_4 2 rfl rfl)
theorem dX3_betterNow_95 : decode cX3_betterNow 95 = .ok (.imul, 1) := dk_104 (dk_at dksX3_betterNow_4 3 rfl rfl)
theorem dX3_betterNow_96 : decode cX3_betterNow 96 = .ok (.iload 4, 2) := dk_21 4 (dk_at dksX3_betterNow_4 4 rfl rfl)
theorem dX3_betterNow_98 : decode cX3_betterNow 98 = .ok (.iadd, 1) := dk_96 (dk_at dksX3_betterNow_4 6 rfl rfl)
theorem dX3_betterNow_99 : decode cX3_betterNow 99 = .ok (.istore_n 2, 1) := dk_61 (dk_at dksX3_betterNow_4 7 rfl rfl)
theorem dX3_betterNow_100 : decode cX3_betterNow 100 = .ok (.iinc 4 1, 3) := dk_132 4 1 (dk_at dksX3_betterNow_4 8 rfl rfl)
theorem dX3_betterNow_103 : decode cX3_betterNow 103 = .ok (.goto (-75), 3) := dk_167 255 181 (dk_at dksX3_betterNow_4 11 rfl rfl)
theorem dX3_betterNow_106 : decode cX3_betterNow 106 = .ok (.iinc 3 1, 3) := dk_132 3 1 (dk_at dksX3_betterNow_4 14 rfl rfl)
theorem dX3_betterNow_109 : decode cX3_betterNow 109 = .ok (.goto (-99), 3) := dk_167 255 157 (dk_at dksX3_betterNow_4 17 rfl rfl)
theorem dX3_betterNow_112 : decode cX3_betterNow 112 = .ok (.iload_n 2, 1) := dk_28 (dk_at dksX3_betterNow_4 20 rfl rfl)
theorem dX3_betterNow_113 : decode cX3_betterNow 113 = .ok (.ireturn, 1) := dk_172 (dk_at dksX3_betterNow_4 21 rfl rfl)
abbrev cX3_least : ByteArray := prog_9_method_55_code
def yX3_least : MethodName := ⟨RX3, "least", "(I)I"⟩
def dkwX3_least_9 : List UInt8 := [132, 3, 1, 167, 255, 195, 28, 172]
abbrev dktX3_least_9 : List UInt8 := dkwX3_least_9 ++ []
def dkwX3_least_8 : List UInt8 := [180, 0, 92, 21, 4, 3, 84, 132, 4, 1, 167, 255, 238, 42, 29, 182, 0, 218, 154, 0, 6, 132, 2, 1]
abbrev dktX3_least_8 : List UInt8 := dkwX3_least_8 ++ dktX3_least_9
def dkwX3_least_7 : List UInt8 := [42, 29, 3, 182, 0, 159, 27, 159, 0, 6, 167, 0, 38, 3, 54, 4, 21, 4, 16, 48, 162, 0, 17, 42]
abbrev dktX3_least_7 : List UInt8 := dkwX3_least_7 ++ dktX3_least_8
def dkwX3_least_6 : List UInt8 := [180, 0, 89, 29, 2, 79, 132, 3, 1, 167, 255, 240, 3, 62, 29, 42, 180, 0, 74, 5, 46, 162, 0, 57]
abbrev dktX3_least_6 : List UInt8 := dkwX3_least_6 ++ dktX3_least_7
def dkwX3_least_5 : List UInt8 := [180, 0, 83, 29, 46, 100, 61, 132, 3, 1, 167, 255, 203, 3, 62, 29, 16, 8, 162, 0, 16, 42]
abbrev dktX3_least_5 : List UInt8 := dkwX3_least_5 ++ dktX3_least_6
def dkwX3_least_4 : List UInt8 := [182, 0, 171, 100, 79, 42, 180, 0, 86, 29, 3, 79, 42, 180, 0, 83, 29, 46, 156, 0, 12, 28, 42]
abbrev dktX3_least_4 : List UInt8 := dkwX3_least_4 ++ dktX3_least_5
def dkwX3_least_3 : List UInt8 := [3, 62, 29, 16, 48, 162, 0, 53, 42, 180, 0, 83, 29, 42, 27, 29, 182, 0, 165, 42, 27, 29]
abbrev dktX3_least_3 : List UInt8 := dkwX3_least_3 ++ dktX3_least_4
def dkwX3_least_2 : List UInt8 := [42, 28, 7, 182, 0, 159, 4, 182, 0, 155, 4, 159, 0, 5, 2, 172, 132, 2, 1, 167, 255, 206, 3, 61]
abbrev dktX3_least_2 : List UInt8 := dkwX3_least_2 ++ dktX3_least_3
def dkwX3_least_1 : List UInt8 := [162, 0, 46, 42, 28, 3, 182, 0, 159, 27, 160, 0, 30, 42, 28, 6, 182, 0, 159, 4, 160, 0, 18, 42]
abbrev dktX3_least_1 : List UInt8 := dkwX3_least_1 ++ dktX3_least_2
def dkwX3_least_0 : List UInt8 := [42, 3, 181, 0, 1, 42, 27, 182, 0, 206, 154, 0, 5, 2, 172, 3, 61, 28, 42, 180, 0, 74, 5, 46]
abbrev dktX3_least_0 : List UInt8 := dkwX3_least_0 ++ dktX3_least_1
theorem dksX3_least_0 : cX3_least.data.toList.drop 0 = dktX3_least_0 := by decide +kernel
theorem dksX3_least_1 : cX3_least.data.toList.drop 24 = dktX3_least_1 := dk_seg dksX3_least_0 24 rfl rfl
theorem dksX3_least_2 : cX3_least.data.toList.drop 48 = dktX3_least_2 := dk_seg dksX3_least_1 24 rfl rfl
theorem dksX3_least_3 : cX3_least.data.toList.drop 72 = dktX3_least_3 := dk_seg dksX3_least_2 24 rfl rfl
theorem dksX3_least_4 : cX3_least.data.toList.drop 94 = dktX3_least_4 := dk_seg dksX3_least_3 22 rfl rfl
theorem dksX3_least_5 : cX3_least.data.toList.drop 117 = dktX3_least_5 := dk_seg dksX3_least_4 23 rfl rfl
theorem dksX3_least_6 : cX3_least.data.toList.drop 139 = dktX3_least_6 := dk_seg dksX3_least_5 22 rfl rfl
theorem dksX3_least_7 : cX3_least.data.toList.drop 163 = dktX3_least_7 := dk_seg dksX3_least_6 24 rfl rfl
theorem dksX3_least_8 : cX3_least.data.toList.drop 187 = dktX3_least_8 := dk_seg dksX3_least_7 24 rfl rfl
theorem dksX3_least_9 : cX3_least.data.toList.drop 211 = dktX3_least_9 := dk_seg dksX3_least_8 24 rfl rfl
theorem dX3_least_0 : decode cX3_least 0 = .ok (.aload_n 0, 1) := dk_42 (dk_at dksX3_least_0 0 rfl rfl)
theorem dX3_least_1 : decode cX3_least 1 = .ok (.iconst 0, 1) := dk_3 (dk_at dksX3_least_0 1 rfl rfl)
theorem dX3_least_2 : decode cX3_least 2 = .ok (.putfield 1, 3) := dk_181 0 1 (dk_at dksX3_least_0 2 rfl rfl)
theorem dX3_least_5 : decode cX3_least 5 = .ok (.aload_n 0, 1) := dk_42 (dk_at dksX3_least_0 5 rfl rfl)
theorem dX3_least_6 : decode cX3_least 6 = .ok (.iload_n 1, 1) := dk_27 (dk_at dksX3_least_0 6 rfl rfl)
theorem dX3_least_7 : decode cX3_least 7 = .ok (.invokevirtual 206, 3) := dk_182 0 206 (dk_at dksX3_least_0 7 rfl rfl)
theorem dX3_least_10 : decode cX3_least 10 = .ok (.ifCond .ne 5, 3) := dk_154 0 5 (dk_at dksX3_least_0 10 rfl rfl)
theorem dX3_least_13 : decode cX3_least 13 = .ok (.iconst (-1), 1) := dk_2 (dk_at dksX3_least_0 13 rfl rfl)
theorem dX3_least_14 : decode cX3_least 14 = .ok (.ireturn, 1) := dk_172 (dk_at dksX3_least_0 14 rfl rfl)
theorem dX3_least_15 : decode cX3_least 15 = .ok (.iconst 0, 1) := dk_3 (dk_at dksX3_least_0 15 rfl rfl)
theorem dX3_least_16 : decode cX3_least 16 = .ok (.istore_n 2, 1) := dk_61 (dk_at dksX3_least_0 16 rfl rfl)
theorem dX3_least_17 : decode cX3_least 17 = .ok (.iload_n 2, 1) := dk_28 (dk_at dksX3_least_0 17 rfl rfl)
theorem dX3_least_18 : decode cX3_least 18 = .ok (.aload_n 0, 1) := dk_42 (dk_at dksX3_least_0 18 rfl rfl)
theorem dX3_least_19 : decode cX3_least 19 = .ok (.getfield 74, 3) := dk_180 0 74 (dk_at dksX3_least_0 19 rfl rfl)
theorem dX3_least_22 : decode cX3_least 22 = .ok (.iconst 2, 1) := dk_5 (dk_at dksX3_least_0 22 rfl rfl)
theorem dX3_least_23 : decode cX3_least 23 = .ok (.iaload, 1) := dk_46 (dk_at dksX3_least_0 23 rfl rfl)
theorem dX3_least_24 : decode cX3_least 24 = .ok (.if_icmp .ge 46, 3) := dk_162 0 46 (dk_at dksX3_least_1 0 rfl rfl)
theorem dX3_least_27 : decode cX3_least 27 = .ok (.aload_n 0, 1) := dk_42 (dk_at dksX3_least_1 3 rfl rfl)
theorem dX3_least_28 : decode cX3_least 28 = .ok (.iload_n 2, 1) := dk_28 (dk_at dksX3_least_1 4 rfl rfl)
theorem dX3_least_29 : decode cX3_least 29 = .ok (.iconst 0, 1) := dk_3 (dk_at dksX3_least_1 5 rfl rfl)
theorem dX3_least_30 : decode cX3_least 30 = .ok (.invokevirtual 159, 3) := dk_182 0 159 (dk_at dksX3_least_1 6 rfl rfl)
theorem dX3_least_33 : decode cX3_least 33 = .ok (.iload_n 1, 1) := dk_27 (dk_at dksX3_least_1 9 rfl rfl)
theorem dX3_least_34 : decode cX3_least 34 = .ok (.if_icmp .ne 30, 3) := dk_160 0 30 (dk_at dksX3_least_1 10 rfl rfl)
theorem dX3_least_37 : decode cX3_least 37 = .ok (.aload_n 0, 1) := dk_42 (dk_at dksX3_least_1 13 rfl rfl)
theorem dX3_least_38 : decode cX3_least 38 = .ok (.iload_n 2, 1) := dk_28 (dk_at dksX3_least_1 14 rfl rfl)
theorem dX3_least_39 : decode cX3_least 39 = .ok (.iconst 3, 1) := dk_6 (dk_at dksX3_least_1 15 rfl rfl)
theorem dX3_least_40 : decode cX3_least 40 = .ok (.invokevirtual 159, 3) := dk_182 0 159 (dk_at dksX3_least_1 16 rfl rfl)
theorem dX3_least_43 : decode cX3_least 43 = .ok (.iconst 1, 1) := dk_4 (dk_at dksX3_least_1 19 rfl rfl)
theorem dX3_least_44 : decode cX3_least 44 = .ok (.if_icmp .ne 18, 3) := dk_160 0 18 (dk_at dksX3_least_1 20 rfl rfl)
theorem dX3_least_47 : decode cX3_least 47 = .ok (.aload_n 0, 1) := dk_42 (dk_at dksX3_least_1 23 rfl rfl)
theorem dX3_least_48 : decode cX3_least 48 = .ok (.aload_n 0, 1) := dk_42 (dk_at dksX3_least_2 0 rfl rfl)
theorem dX3_least_49 : decode cX3_least 49 = .ok (.iload_n 2, 1) := dk_28 (dk_at dksX3_least_2 1 rfl rfl)
theorem dX3_least_50 : decode cX3_least 50 = .ok (.iconst 4, 1) := dk_7 (dk_at dksX3_least_2 2 rfl rfl)
theorem dX3_least_51 : decode cX3_least 51 = .ok (.invokevirtual 159, 3) := dk_182 0 159 (dk_at dksX3_least_2 3 rfl rfl)
theorem dX3_least_54 : decode cX3_least 54 = .ok (.iconst 1, 1) := dk_4 (dk_at dksX3_least_2 6 rfl rfl)
theorem dX3_least_55 : decode cX3_least 55 = .ok (.invokevirtual 155, 3) := dk_182 0 155 (dk_at dksX3_least_2 7 rfl rfl)
theorem dX3_least_58 : decode cX3_least 58 = .ok (.iconst 1, 1) := dk_4 (dk_at dksX3_least_2 10 rfl rfl)
theorem dX3_least_59 : decode cX3_least 59 = .ok (.if_icmp .eq 5, 3) := dk_159 0 5 (dk_at dksX3_least_2 11 rfl rfl)
theorem dX3_least_62 : decode cX3_least 62 = .ok (.iconst (-1), 1) := dk_2 (dk_at dksX3_least_2 14 rfl rfl)
theorem dX3_least_63 : decode cX3_least 63 = .ok (.ireturn, 1) := dk_172 (dk_at dksX3_least_2 15 rfl rfl)
theorem dX3_least_64 : decode cX3_least 64 = .ok (.iinc 2 1, 3) := dk_132 2 1 (dk_at dksX3_least_2 16 rfl rfl)
theorem dX3_least_67 : decode cX3_least 67 = .ok (.goto (-50), 3) := dk_167 255 206 (dk_at dksX3_least_2 19 rfl rfl)
theorem dX3_least_70 : decode cX3_least 70 = .ok (.iconst 0, 1) := dk_3 (dk_at dksX3_least_2 22 rfl rfl)
theorem dX3_least_71 : decode cX3_least 71 = .ok (.istore_n 2, 1) := dk_61 (dk_at dksX3_least_2 23 rfl rfl)
theorem dX3_least_72 : decode cX3_least 72 = .ok (.iconst 0, 1) := dk_3 (dk_at dksX3_least_3 0 rfl rfl)
theorem dX3_least_73 : decode cX3_least 73 = .ok (.istore_n 3, 1) := dk_62 (dk_at dksX3_least_3 1 rfl rfl)
theorem dX3_least_74 : decode cX3_least 74 = .ok (.iload_n 3, 1) := dk_29 (dk_at dksX3_least_3 2 rfl rfl)
theorem dX3_least_75 : decode cX3_least 75 = .ok (.bipush 48, 2) := dk_16 48 (dk_at dksX3_least_3 3 rfl rfl)
theorem dX3_least_77 : decode cX3_least 77 = .ok (.if_icmp .ge 53, 3) := dk_162 0 53 (dk_at dksX3_least_3 5 rfl rfl)
theorem dX3_least_80 : decode cX3_least 80 = .ok (.aload_n 0, 1) := dk_42 (dk_at dksX3_least_3 8 rfl rfl)
theorem dX3_least_81 : decode cX3_least 81 = .ok (.getfield 83, 3) := dk_180 0 83 (dk_at dksX3_least_3 9 rfl rfl)
theorem dX3_least_84 : decode cX3_least 84 = .ok (.iload_n 3, 1) := dk_29 (dk_at dksX3_least_3 12 rfl rfl)
theorem dX3_least_85 : decode cX3_least 85 = .ok (.aload_n 0, 1) := dk_42 (dk_at dksX3_least_3 13 rfl rfl)
theorem dX3_least_86 : decode cX3_least 86 = .ok (.iload_n 1, 1) := dk_27 (dk_at dksX3_least_3 14 rfl rfl)
theorem dX3_least_87 : decode cX3_least 87 = .ok (.iload_n 3, 1) := dk_29 (dk_at dksX3_least_3 15 rfl rfl)
theorem dX3_least_88 : decode cX3_least 88 = .ok (.invokevirtual 165, 3) := dk_182 0 165 (dk_at dksX3_least_3 16 rfl rfl)
theorem dX3_least_91 : decode cX3_least 91 = .ok (.aload_n 0, 1) := dk_42 (dk_at dksX3_least_3 19 rfl rfl)
theorem dX3_least_92 : decode cX3_least 92 = .ok (.iload_n 1, 1) := dk_27 (dk_at dksX3_least_3 20 rfl rfl)
theorem dX3_least_93 : decode cX3_least 93 = .ok (.iload_n 3, 1) := dk_29 (dk_at dksX3_least_3 21 rfl rfl)
theorem dX3_least_94 : decode cX3_least 94 = .ok (.invokevirtual 171, 3) := dk_182 0 171 (dk_at dksX3_least_4 0 rfl rfl)
theorem dX3_least_97 : decode cX3_least 97 = .ok (.isub, 1) := dk_100 (dk_at dksX3_least_4 3 rfl rfl)
theorem dX3_least_98 : decode cX3_least 98 = .ok (.iastore, 1) := dk_79 (dk_at dksX3_least_4 4 rfl rfl)
theorem dX3_least_99 : decode cX3_least 99 = .ok (.aload_n 0, 1) := dk_42 (dk_at dksX3_least_4 5 rfl rfl)
theorem dX3_least_100 : decode cX3_least 100 = .ok (.getfield 86, 3) := dk_180 0 86 (dk_at dksX3_least_4 6 rfl rfl)
theorem dX3_least_103 : decode cX3_least 103 = .ok (.iload_n 3, 1) := dk_29 (dk_at dksX3_least_4 9 rfl rfl)
theorem dX3_least_104 : decode cX3_least 104 = .ok (.iconst 0, 1) := dk_3 (dk_at dksX3_least_4 10 rfl rfl)
theorem dX3_least_105 : decode cX3_least 105 = .ok (.iastore, 1) := dk_79 (dk_at dksX3_least_4 11 rfl rfl)
theorem dX3_least_106 : decode cX3_least 106 = .ok (.aload_n 0, 1) := dk_42 (dk_at dksX3_least_4 12 rfl rfl)
theorem dX3_least_107 : decode cX3_least 107 = .ok (.getfield 83, 3) := dk_180 0 83 (dk_at dksX3_least_4 13 rfl rfl)
theorem dX3_least_110 : decode cX3_least 110 = .ok (.iload_n 3, 1) := dk_29 (dk_at dksX3_least_4 16 rfl rfl)
theorem dX3_least_111 : decode cX3_least 111 = .ok (.iaload, 1) := dk_46 (dk_at dksX3_least_4 17 rfl rfl)
theorem dX3_least_112 : decode cX3_least 112 = .ok (.ifCond .ge 12, 3) := dk_156 0 12 (dk_at dksX3_least_4 18 rfl rfl)
theorem dX3_least_115 : decode cX3_least 115 = .ok (.iload_n 2, 1) := dk_28 (dk_at dksX3_least_4 21 rfl rfl)
theorem dX3_least_116 : decode cX3_least 116 = .ok (.aload_n 0, 1) := dk_42 (dk_at dksX3_least_4 22 rfl rfl)
theorem dX3_least_117 : decode cX3_least 117 = .ok (.getfield 83, 3) := dk_180 0 83 (dk_at dksX3_least_5 0 rfl rfl)
theorem dX3_least_120 : decode cX3_least 120 = .ok (.iload_n 3, 1) := dk_29 (dk_at dksX3_least_5 3 rfl rfl)
theorem dX3_least_121 : decode cX3_least 121 = .ok (.iaload, 1) := dk_46 (dk_at dksX3_least_5 4 rfl rfl)
theorem dX3_least_122 : decode cX3_least 122 = .ok (.isub, 1) := dk_100 (dk_at dksX3_least_5 5 rfl rfl)
theorem dX3_least_123 : decode cX3_least 123 = .ok (.istore_n 2, 1) := dk_61 (dk_at dksX3_least_5 6 rfl rfl)
theorem dX3_least_124 : decode cX3_least 124 = .ok (.iinc 3 1, 3) := dk_132 3 1 (dk_at dksX3_least_5 7 rfl rfl)
theorem dX3_least_127 : decode cX3_least 127 = .ok (.goto (-53), 3) := dk_167 255 203 (dk_at dksX3_least_5 10 rfl rfl)
theorem dX3_least_130 : decode cX3_least 130 = .ok (.iconst 0, 1) := dk_3 (dk_at dksX3_least_5 13 rfl rfl)
theorem dX3_least_131 : decode cX3_least 131 = .ok (.istore_n 3, 1) := dk_62 (dk_at dksX3_least_5 14 rfl rfl)
theorem dX3_least_132 : decode cX3_least 132 = .ok (.iload_n 3, 1) := dk_29 (dk_at dksX3_least_5 15 rfl rfl)
theorem dX3_least_133 : decode cX3_least 133 = .ok (.bipush 8, 2) := dk_16 8 (dk_at dksX3_least_5 16 rfl rfl)
theorem dX3_least_135 : decode cX3_least 135 = .ok (.if_icmp .ge 16, 3) := dk_162 0 16 (dk_at dksX3_least_5 18 rfl rfl)
theorem dX3_least_138 : decode cX3_least 138 = .ok (.aload_n 0, 1) := dk_42 (dk_at dksX3_least_5 21 rfl rfl)
theorem dX3_least_139 : decode cX3_least 139 = .ok (.getfield 89, 3) := dk_180 0 89 (dk_at dksX3_least_6 0 rfl rfl)
theorem dX3_least_142 : decode cX3_least 142 = .ok (.iload_n 3, 1) := dk_29 (dk_at dksX3_least_6 3 rfl rfl)
theorem dX3_least_143 : decode cX3_least 143 = .ok (.iconst (-1), 1) := dk_2 (dk_at dksX3_least_6 4 rfl rfl)
theorem dX3_least_144 : decode cX3_least 144 = .ok (.iastore, 1) := dk_79 (dk_at dksX3_least_6 5 rfl rfl)
theorem dX3_least_145 : decode cX3_least 145 = .ok (.iinc 3 1, 3) := dk_132 3 1 (dk_at dksX3_least_6 6 rfl rfl)
theorem dX3_least_148 : decode cX3_least 148 = .ok (.goto (-16), 3) := dk_167 255 240 (dk_at dksX3_least_6 9 rfl rfl)
theorem dX3_least_151 : decode cX3_least 151 = .ok (.iconst 0, 1) := dk_3 (dk_at dksX3_least_6 12 rfl rfl)
theorem dX3_least_152 : decode cX3_least 152 = .ok (.istore_n 3, 1) := dk_62 (dk_at dksX3_least_6 13 rfl rfl)
theorem dX3_least_153 : decode cX3_least 153 = .ok (.iload_n 3, 1) := dk_29 (dk_at dksX3_least_6 14 rfl rfl)
theorem dX3_least_154 : decode cX3_least 154 = .ok (.aload_n 0, 1) := dk_42 (dk_at dksX3_least_6 15 rfl rfl)
theorem dX3_least_155 : decode cX3_least 155 = .ok (.getfield 74, 3) := dk_180 0 74 (dk_at dksX3_least_6 16 rfl rfl)
theorem dX3_least_158 : decode cX3_least 158 = .ok (.iconst 2, 1) := dk_5 (dk_at dksX3_least_6 19 rfl rfl)
theorem dX3_least_159 : decode cX3_least 159 = .ok (.iaload, 1) := dk_46 (dk_at dksX3_least_6 20 rfl rfl)
theorem dX3_least_160 : decode cX3_least 160 = .ok (.if_icmp .ge 57, 3) := dk_162 0 57 (dk_at dksX3_least_6 21 rfl rfl)
theorem dX3_least_163 : decode cX3_least 163 = .ok (.aload_n 0, 1) := dk_42 (dk_at dksX3_least_7 0 rfl rfl)
theorem dX3_least_164 : decode cX3_least 164 = .ok (.iload_n 3, 1) := dk_29 (dk_at dksX3_least_7 1 rfl rfl)
theorem dX3_least_165 : decode cX3_least 165 = .ok (.iconst 0, 1) := dk_3 (dk_at dksX3_least_7 2 rfl rfl)
theorem dX3_least_166 : decode cX3_least 166 = .ok (.invokevirtual 159, 3) := dk_182 0 159 (dk_at dksX3_least_7 3 rfl rfl)
theorem dX3_least_169 : decode cX3_least 169 = .ok (.iload_n 1, 1) := dk_27 (dk_at dksX3_least_7 6 rfl rfl)
theorem dX3_least_170 : decode cX3_least 170 = .ok (.if_icmp .eq 6, 3) := dk_159 0 6 (dk_at dksX3_least_7 7 rfl rfl)
theorem dX3_least_173 : decode cX3_least 173 = .ok (.goto 38, 3) := dk_167 0 38 (dk_at dksX3_least_7 10 rfl rfl)
theorem dX3_least_176 : decode cX3_least 176 = .ok (.iconst 0, 1) := dk_3 (dk_at dksX3_least_7 13 rfl rfl)
theorem dX3_least_177 : decode cX3_least 177 = .ok (.istore 4, 2) := dk_54 4 (dk_at dksX3_least_7 14 rfl rfl)
theorem dX3_least_179 : decode cX3_least 179 = .ok (.iload 4, 2) := dk_21 4 (dk_at dksX3_least_7 16 rfl rfl)
theorem dX3_least_181 : decode cX3_least 181 = .ok (.bipush 48, 2) := dk_16 48 (dk_at dksX3_least_7 18 rfl rfl)
theorem dX3_least_183 : decode cX3_least 183 = .ok (.if_icmp .ge 17, 3) := dk_162 0 17 (dk_at dksX3_least_7 20 rfl rfl)
theorem dX3_least_186 : decode cX3_least 186 = .ok (.aload_n 0, 1) := dk_42 (dk_at dksX3_least_7 23 rfl rfl)
theorem dX3_least_187 : decode cX3_least 187 = .ok (.getfield 92, 3) := dk_180 0 92 (dk_at dksX3_least_8 0 rfl rfl)
theorem dX3_least_190 : decode cX3_least 190 = .ok (.iload 4, 2) := dk_21 4 (dk_at dksX3_least_8 3 rfl rfl)
theorem dX3_least_192 : decode cX3_least 192 = .ok (.iconst 0, 1) := dk_3 (dk_at dksX3_least_8 5 rfl rfl)
theorem dX3_least_193 : decode cX3_least 193 = .ok (.bastore, 1) := dk_84 (dk_at dksX3_least_8 6 rfl rfl)
theorem dX3_least_194 : decode cX3_least 194 = .ok (.iinc 4 1, 3) := dk_132 4 1 (dk_at dksX3_least_8 7 rfl rfl)
theorem dX3_least_197 : decode cX3_least 197 = .ok (.goto (-18), 3) := dk_167 255 238 (dk_at dksX3_least_8 10 rfl rfl)
theorem dX3_least_200 : decode cX3_least 200 = .ok (.aload_n 0, 1) := dk_42 (dk_at dksX3_least_8 13 rfl rfl)
theorem dX3_least_201 : decode cX3_least 201 = .ok (.iload_n 3, 1) := dk_29 (dk_at dksX3_least_8 14 rfl rfl)
theorem dX3_least_202 : decode cX3_least 202 = .ok (.invokevirtual 218, 3) := dk_182 0 218 (dk_at dksX3_least_8 15 rfl rfl)
theorem dX3_least_205 : decode cX3_least 205 = .ok (.ifCond .ne 6, 3) := dk_154 0 6 (dk_at dksX3_least_8 18 rfl rfl)
theorem dX3_least_208 : decode cX3_least 208 = .ok (.iinc 2 1, 3) := dk_132 2 1 (dk_at dksX3_least_8 21 rfl rfl)
theorem dX3_least_211 : decode cX3_least 211 = .ok (.iinc 3 1, 3) := dk_132 3 1 (dk_at dksX3_least_9 0 rfl rfl)
theorem dX3_least_214 : decode cX3_least 214 = .ok (.goto (-61), 3) := dk_167 255 195 (dk_at dksX3_least_9 3 rfl rfl)
theorem dX3_least_217 : decode cX3_least 217 = .ok (.iload_n 2, 1) := dk_28 (dk_at dksX3_least_9 6 rfl rfl)
theorem dX3_least_218 : decode cX3_least 218 = .ok (.ireturn, 1) := dk_172 (dk_at dksX3_least_9 7 rfl rfl)
abbrev cX3_getsSlot : ByteArray := prog_9_method_54_code
def yX3_getsSlot : MethodName := ⟨RX3, "getsSlot", "(I)Z"⟩
def dkwX3_getsSlot_7 : List UInt8 := [172, 132, 3, 1, 167, 255, 105, 3, 172]
abbrev dktX3_getsSlot_7 : List UInt8 := dkwX3_getsSlot_7 ++ []
def dkwX3_getsSlot_6 : List UInt8 := [154, 0, 6, 167, 0, 22, 42, 180, 0, 86, 29, 92, 46, 4, 96, 79, 42, 180, 0, 89, 27, 29, 79, 4]
abbrev dktX3_getsSlot_6 : List UInt8 := dkwX3_getsSlot_6 ++ dktX3_getsSlot_7
def dkwX3_getsSlot_5 : List UInt8 := [167, 0, 16, 42, 180, 0, 86, 29, 92, 46, 4, 100, 79, 4, 54, 4, 132, 5, 1, 167, 255, 201, 21, 4]
abbrev dktX3_getsSlot_5 : List UInt8 := dkwX3_getsSlot_5 ++ dktX3_getsSlot_6
def dkwX3_getsSlot_4 : List UInt8 := [154, 0, 45, 42, 180, 0, 89, 21, 5, 46, 29, 160, 0, 28, 42, 21, 5, 182, 0, 218, 154, 0, 6]
abbrev dktX3_getsSlot_4 : List UInt8 := dkwX3_getsSlot_4 ++ dktX3_getsSlot_5
def dkwX3_getsSlot_3 : List UInt8 := [167, 0, 4, 3, 54, 4, 3, 54, 5, 21, 5, 42, 180, 0, 74, 5, 46, 162, 0, 50, 21, 4]
abbrev dktX3_getsSlot_3 : List UInt8 := dkwX3_getsSlot_3 ++ dktX3_getsSlot_4
def dkwX3_getsSlot_2 : List UInt8 := [180, 0, 92, 29, 4, 84, 42, 180, 0, 86, 29, 46, 42, 180, 0, 83, 29, 46, 162, 0, 7, 4]
abbrev dktX3_getsSlot_2 : List UInt8 := dkwX3_getsSlot_2 ++ dktX3_getsSlot_3
def dkwX3_getsSlot_1 : List UInt8 := [42, 180, 0, 92, 29, 51, 154, 0, 132, 42, 180, 0, 83, 29, 46, 157, 0, 6, 167, 0, 120, 42]
abbrev dktX3_getsSlot_1 : List UInt8 := dkwX3_getsSlot_1 ++ dktX3_getsSlot_2
def dkwX3_getsSlot_0 : List UInt8 := [42, 27, 7, 182, 0, 159, 61, 42, 28, 5, 182, 0, 155, 62, 29, 42, 28, 6, 182, 0, 155, 163, 0, 147]
abbrev dktX3_getsSlot_0 : List UInt8 := dkwX3_getsSlot_0 ++ dktX3_getsSlot_1
theorem dksX3_getsSlot_0 : cX3_getsSlot.data.toList.drop 0 = dktX3_getsSlot_0 := by decide +kernel
theorem dksX3_getsSlot_1 : cX3_getsSlot.data.toList.drop 24 = dktX3_getsSlot_1 := dk_seg dksX3_getsSlot_0 24 rfl rfl
theorem dksX3_getsSlot_2 : cX3_getsSlot.data.toList.drop 46 = dktX3_getsSlot_2 := dk_seg dksX3_getsSlot_1 22 rfl rfl
theorem dksX3_getsSlot_3 : cX3_getsSlot.data.toList.drop 68 = dktX3_getsSlot_3 := dk_seg dksX3_getsSlot_2 22 rfl rfl
theorem dksX3_getsSlot_4 : cX3_getsSlot.data.toList.drop 90 = dktX3_getsSlot_4 := dk_seg dksX3_getsSlot_3 22 rfl rfl
theorem dksX3_getsSlot_5 : cX3_getsSlot.data.toList.drop 113 = dktX3_getsSlot_5 := dk_seg dksX3_getsSlot_4 23 rfl rfl
theorem dksX3_getsSlot_6 : cX3_getsSlot.data.toList.drop 137 = dktX3_getsSlot_6 := dk_seg dksX3_getsSlot_5 24 rfl rfl
theorem dksX3_getsSlot_7 : cX3_getsSlot.data.toList.drop 161 = dktX3_getsSlot_7 := dk_seg dksX3_getsSlot_6 24 rfl rfl
theorem dX3_getsSlot_0 : decode cX3_getsSlot 0 = .ok (.aload_n 0, 1) := dk_42 (dk_at dksX3_getsSlot_0 0 rfl rfl)
theorem dX3_getsSlot_1 : decode cX3_getsSlot 1 = .ok (.iload_n 1, 1) := dk_27 (dk_at dksX3_getsSlot_0 1 rfl rfl)
theorem dX3_getsSlot_2 : decode cX3_getsSlot 2 = .ok (.iconst 4, 1) := dk_7 (dk_at dksX3_getsSlot_0 2 rfl rfl)
theorem dX3_getsSlot_3 : decode cX3_getsSlot 3 = .ok (.invokevirtual 159, 3) := dk_182 0 159 (dk_at dksX3_getsSlot_0 3 rfl rfl)
theorem dX3_getsSlot_6 : decode cX3_getsSlot 6 = .ok (.istore_n 2, 1) := dk_61 (dk_at dksX3_getsSlot_0 6 rfl rfl)
theorem dX3_getsSlot_7 : decode cX3_getsSlot 7 = .ok (.aload_n 0, 1) := dk_42 (dk_at dksX3_getsSlot_0 7 rfl rfl)
theorem dX3_getsSlot_8 : decode cX3_getsSlot 8 = .ok (.iload_n 2, 1) := dk_28 (dk_at dksX3_getsSlot_0 8 rfl rfl)
theorem dX3_getsSlot_9 : decode cX3_getsSlot 9 = .ok (.iconst 2, 1) := dk_5 (dk_at dksX3_getsSlot_0 9 rfl rfl)
theorem dX3_getsSlot_10 : decode cX3_getsSlot 10 = .ok (.invokevirtual 155, 3) := dk_182 0 155 (dk_at dksX3_getsSlot_0 10 rfl rfl)
theorem dX3_getsSlot_13 : decode cX3_getsSlot 13 = .ok (.istore_n 3, 1) := dk_62 (dk_at dksX3_getsSlot_0 13 rfl rfl)
theorem dX3_getsSlot_14 : decode cX3_getsSlot 14 = .ok (.iload_n 3, 1) := dk_29 (dk_at dksX3_getsSlot_0 14 rfl rfl)
theorem dX3_getsSlot_15 : decode cX3_getsSlot 15 = .ok (.aload_n 0, 1) := dk_42 (dk_at dksX3_getsSlot_0 15 rfl rfl)
theorem dX3_getsSlot_16 : decode cX3_getsSlot 16 = .ok (.iload_n 2, 1) := dk_28 (dk_at dksX3_getsSlot_0 16 rfl rfl)
theorem dX3_getsSlot_17 : decode cX3_getsSlot 17 = .ok (.iconst 3, 1) := dk_6 (dk_at dksX3_getsSlot_0 17 rfl rfl)
theorem dX3_getsSlot_18 : decode cX3_getsSlot 18 = .ok (.invokevirtual 155, 3) := dk_182 0 155 (dk_at dksX3_getsSlot_0 18 rfl rfl)
theorem dX3_getsSlot_21 : decode cX3_getsSlot 21 = .ok (.if_icmp .gt 147, 3) := dk_163 0 147 (dk_at dksX3_getsSlot_0 21 rfl rfl)
theorem dX3_getsSlot_24 : decode cX3_getsSlot 24 = .ok (.aload_n 0, 1) := dk_42 (dk_at dksX3_getsSlot_1 0 rfl rfl)
theorem dX3_getsSlot_25 : decode cX3_getsSlot 25 = .ok (.getfield 92, 3) := dk_180 0 92 (dk_at dksX3_getsSlot_1 1 rfl rfl)
theorem dX3_getsSlot_28 : decode cX3_getsSlot 28 = .ok (.iload_n 3, 1) := dk_29 (dk_at dksX3_getsSlot_1 4 rfl rfl)
theorem dX3_getsSlot_29 : decode cX3_getsSlot 29 = .ok (.baload, 1) := dk_51 (dk_at dksX3_getsSlot_1 5 rfl rfl)
theorem dX3_getsSlot_30 : decode cX3_getsSlot 30 = .ok (.ifCond .ne 132, 3) := dk_154 0 132 (dk_at dksX3_getsSlot_1 6 rfl rfl)
theorem dX3_getsSlot_33 : decode cX3_getsSlot 33 = .ok (.aload_n 0, 1) := dk_42 (dk_at dksX3_getsSlot_1 9 rfl rfl)
theorem dX3_getsSlot_34 : decode cX3_getsSlot 34 = .ok (.getfield 83, 3) := dk_180 0 83 (dk_at dksX3_getsSlot_1 10 rfl rfl)
theorem dX3_getsSlot_37 : decode cX3_getsSlot 37 = .ok (.iload_n 3, 1) := dk_29 (dk_at dksX3_getsSlot_1 13 rfl rfl)
theorem dX3_getsSlot_38 : decode cX3_getsSlot 38 = .ok (.iaload, 1) := dk_46 (dk_at dksX3_getsSlot_1 14 rfl rfl)
theorem dX3_getsSlot_39 : decode cX3_getsSlot 39 = .ok (.ifCond .gt 6, 3) := dk_157 0 6 (dk_at dksX3_getsSlot_1 15 rfl rfl)
theorem dX3_getsSlot_42 : decode cX3_getsSlot 42 = .ok (.goto 120, 3) := dk_167 0 120 (dk_at dksX3_getsSlot_1 18 rfl rfl)
theorem dX3_getsSlot_45 : decode cX3_getsSlot 45 = .ok (.aload_n 0, 1) := dk_42 (dk_at dksX3_getsSlot_1 21 rfl rfl)
theorem dX3_getsSlot_46 : decode cX3_getsSlot 46 = .ok (.getfield 92, 3) := dk_180 0 92 (dk_at dksX3_getsSlot_2 0 rfl rfl)
theorem dX3_getsSlot_49 : decode cX3_getsSlot 49 = .ok (.iload_n 3, 1) := dk_29 (dk_at dksX3_getsSlot_2 3 rfl rfl)
theorem dX3_getsSlot_50 : decode cX3_getsSlot 50 = .ok (.iconst 1, 1) := dk_4 (dk_at dksX3_getsSlot_2 4 rfl rfl)
theorem dX3_getsSlot_51 : decode cX3_getsSlot 51 = .ok (.bastore, 1) := dk_84 (dk_at dksX3_getsSlot_2 5 rfl rfl)
theorem dX3_getsSlot_52 : decode cX3_getsSlot 52 = .ok (.aload_n 0, 1) := dk_42 (dk_at dksX3_getsSlot_2 6 rfl rfl)
theorem dX3_getsSlot_53 : decode cX3_getsSlot 53 = .ok (.getfield 86, 3) := dk_180 0 86 (dk_at dksX3_getsSlot_2 7 rfl rfl)
theorem dX3_getsSlot_56 : decode cX3_getsSlot 56 = .ok (.iload_n 3, 1) := dk_29 (dk_at dksX3_getsSlot_2 10 rfl rfl)
theorem dX3_getsSlot_57 : decode cX3_getsSlot 57 = .ok (.iaload, 1) := dk_46 (dk_at dksX3_getsSlot_2 11 rfl rfl)
theorem dX3_getsSlot_58 : decode cX3_getsSlot 58 = .ok (.aload_n 0, 1) := dk_42 (dk_at dksX3_getsSlot_2 12 rfl rfl)
theorem dX3_getsSlot_59 : decode cX3_getsSlot 59 = .ok (.getfield 83, 3) := dk_180 0 83 (dk_at dksX3_getsSlot_2 13 rfl rfl)
theorem dX3_getsSlot_62 : decode cX3_getsSlot 62 = .ok (.iload_n 3, 1) := dk_29 (dk_at dksX3_getsSlot_2 16 rfl rfl)
theorem dX3_getsSlot_63 : decode cX3_getsSlot 63 = .ok (.iaload, 1) := dk_46 (dk_at dksX3_getsSlot_2 17 rfl rfl)
theorem dX3_getsSlot_64 : decode cX3_getsSlot 64 = .ok (.if_icmp .ge 7, 3) := dk_162 0 7 (dk_at dksX3_getsSlot_2 18 rfl rfl)
theorem dX3_getsSlot_67 : decode cX3_getsSlot 67 = .ok (.iconst 1, 1) := dk_4 (dk_at dksX3_getsSlot_2 21 rfl rfl)
theorem dX3_getsSlot_68 : decode cX3_getsSlot 68 = .ok (.goto 4, 3) := dk_167 0 4 (dk_at dksX3_getsSlot_3 0 rfl rfl)
theorem dX3_getsSlot_71 : decode cX3_getsSlot 71 = .ok (.iconst 0, 1) := dk_3 (dk_at dksX3_getsSlot_3 3 rfl rfl)
theorem dX3_getsSlot_72 : decode cX3_getsSlot 72 = .ok (.istore 4, 2) := dk_54 4 (dk_at dksX3_getsSlot_3 4 rfl rfl)
theorem dX3_getsSlot_74 : decode cX3_getsSlot 74 = .ok (.iconst 0, 1) := dk_3 (dk_at dksX3_getsSlot_3 6 rfl rfl)
theorem dX3_getsSlot_75 : decode cX3_getsSlot 75 = .ok (.istore 5, 2) := dk_54 5 (dk_at dksX3_getsSlot_3 7 rfl rfl)
theorem dX3_getsSlot_77 : decode cX3_getsSlot 77 = .ok (.iload 5, 2) := dk_21 5 (dk_at dksX3_getsSlot_3 9 rfl rfl)
theorem dX3_getsSlot_79 : decode cX3_getsSlot 79 = .ok (.aload_n 0, 1) := dk_42 (dk_at dksX3_getsSlot_3 11 rfl rfl)
theorem dX3_getsSlot_80 : decode cX3_getsSlot 80 = .ok (.getfield 74, 3) := dk_180 0 74 (dk_at dksX3_getsSlot_3 12 rfl rfl)
theorem dX3_getsSlot_83 : decode cX3_getsSlot 83 = .ok (.iconst 2, 1) := dk_5 (dk_at dksX3_getsSlot_3 15 rfl rfl)
theorem dX3_getsSlot_84 : decode cX3_getsSlot 84 = .ok (.iaload, 1) := dk_46 (dk_at dksX3_getsSlot_3 16 rfl rfl)
theorem dX3_getsSlot_85 : decode cX3_getsSlot 85 = .ok (.if_icmp .ge 50, 3) := dk_162 0 50 (dk_at dksX3_getsSlot_3 17 rfl rfl)
theorem dX3_getsSlot_88 : decode cX3_getsSlot 88 = .ok (.iload 4, 2) := dk_21 4 (dk_at dksX3_getsSlot_3 20 rfl rfl)
theorem dX3_getsSlot_90 : decode cX3_getsSlot 90 = .ok (.ifCond .ne 45, 3) := dk_154 0 45 (dk_at dksX3_getsSlot_4 0 rfl rfl)
theorem dX3_getsSlot_93 : decode cX3_getsSlot 93 = .ok (.aload_n 0, 1) := dk_42 (dk_at dksX3_getsSlot_4 3 rfl rfl)
theorem dX3_getsSlot_94 : decode cX3_getsSlot 94 = .ok (.getfield 89, 3) := dk_180 0 89 (dk_at dksX3_getsSlot_4 4 rfl rfl)
theorem dX3_getsSlot_97 : decode cX3_getsSlot 97 = .ok (.iload 5, 2) := dk_21 5 (dk_at dksX3_getsSlot_4 7 rfl rfl)
theorem dX3_getsSlot_99 : decode cX3_getsSlot 99 = .ok (.iaload, 1) := dk_46 (dk_at dksX3_getsSlot_4 9 rfl rfl)
theorem dX3_getsSlot_100 : decode cX3_getsSlot 100 = .ok (.iload_n 3, 1) := dk_29 (dk_at dksX3_getsSlot_4 10 rfl rfl)
theorem dX3_getsSlot_101 : decode cX3_getsSlot 101 = .ok (.if_icmp .ne 28, 3) := dk_160 0 28 (dk_at dksX3_getsSlot_4 11 rfl rfl)
theorem dX3_getsSlot_104 : decode cX3_getsSlot 104 = .ok (.aload_n 0, 1) := dk_42 (dk_at dksX3_getsSlot_4 14 rfl rfl)
theorem dX3_getsSlot_105 : decode cX3_getsSlot 105 = .ok (.iload 5, 2) := dk_21 5 (dk_at dksX3_getsSlot_4 15 rfl rfl)
theorem dX3_getsSlot_107 : decode cX3_getsSlot 107 = .ok (.invokevirtual 218, 3) := dk_182 0 218 (dk_at dksX3_getsSlot_4 17 rfl rfl)
theorem dX3_getsSlot_110 : decode cX3_getsSlot 110 = .ok (.ifCond .ne 6, 3) := dk_154 0 6 (dk_at dksX3_getsSlot_4 20 rfl rfl)
theorem dX3_getsSlot_113 : decode cX3_getsSlot 113 = .ok (.goto 16, 3) := dk_167 0 16 (dk_at dksX3_getsSlot_5 0 rfl rfl)
theorem dX3_getsSlot_116 : decode cX3_getsSlot 116 = .ok (.aload_n 0, 1) := dk_42 (dk_at dksX3_getsSlot_5 3 rfl rfl)
theorem dX3_getsSlot_117 : decode cX3_getsSlot 117 = .ok (.getfield 86, 3) := dk_180 0 86 (dk_at dksX3_getsSlot_5 4 rfl rfl)
theorem dX3_getsSlot_120 : decode cX3_getsSlot 120 = .ok (.iload_n 3, 1) := dk_29 (dk_at dksX3_getsSlot_5 7 rfl rfl)
theorem dX3_getsSlot_121 : decode cX3_getsSlot 121 = .ok (.dup2, 1) := dk_92 (dk_at dksX3_getsSlot_5 8 rfl rfl)
theorem dX3_getsSlot_122 : decode cX3_getsSlot 122 = .ok (.iaload, 1) := dk_46 (dk_at dksX3_getsSlot_5 9 rfl rfl)
theorem dX3_getsSlot_123 : decode cX3_getsSlot 123 = .ok (.iconst 1, 1) := dk_4 (dk_at dksX3_getsSlot_5 10 rfl rfl)
theorem dX3_getsSlot_124 : decode cX3_getsSlot 124 = .ok (.isub, 1) := dk_100 (dk_at dksX3_getsSlot_5 11 rfl rfl)
theorem dX3_getsSlot_125 : decode cX3_getsSlot 125 = .ok (.iastore, 1) := dk_79 (dk_at dksX3_getsSlot_5 12 rfl rfl)
theorem dX3_getsSlot_126 : decode cX3_getsSlot 126 = .ok (.iconst 1, 1) := dk_4 (dk_at dksX3_getsSlot_5 13 rfl rfl)
theorem dX3_getsSlot_127 : decode cX3_getsSlot 127 = .ok (.istore 4, 2) := dk_54 4 (dk_at dksX3_getsSlot_5 14 rfl rfl)
theorem dX3_getsSlot_129 : decode cX3_getsSlot 129 = .ok (.iinc 5 1, 3) := dk_132 5 1 (dk_at dksX3_getsSlot_5 16 rfl rfl)
theorem dX3_getsSlot_132 : decode cX3_getsSlot 132 = .ok (.goto (-55), 3) := dk_167 255 201 (dk_at dksX3_getsSlot_5 19 rfl rfl)
theorem dX3_getsSlot_135 : decode cX3_getsSlot 135 = .ok (.iload 4, 2) := dk_21 4 (dk_at dksX3_getsSlot_5 22 rfl rfl)
theorem dX3_getsSlot_137 : decode cX3_getsSlot 137 = .ok (.ifCond .ne 6, 3) := dk_154 0 6 (dk_at dksX3_getsSlot_6 0 rfl rfl)
theorem dX3_getsSlot_140 : decode cX3_getsSlot 140 = .ok (.goto 22, 3) := dk_167 0 22 (dk_at dksX3_getsSlot_6 3 rfl rfl)
theorem dX3_getsSlot_143 : decode cX3_getsSlot 143 = .ok (.aload_n 0, 1) := dk_42 (dk_at dksX3_getsSlot_6 6 rfl rfl)
theorem dX3_getsSlot_144 : decode cX3_getsSlot 144 = .ok (.getfield 86, 3) := dk_180 0 86 (dk_at dksX3_getsSlot_6 7 rfl rfl)
theorem dX3_getsSlot_147 : decode cX3_getsSlot 147 = .ok (.iload_n 3, 1) := dk_29 (dk_at dksX3_getsSlot_6 10 rfl rfl)
theorem dX3_getsSlot_148 : decode cX3_getsSlot 148 = .ok (.dup2, 1) := dk_92 (dk_at dksX3_getsSlot_6 11 rfl rfl)
theorem dX3_getsSlot_149 : decode cX3_getsSlot 149 = .ok (.iaload, 1) := dk_46 (dk_at dksX3_getsSlot_6 12 rfl rfl)
theorem dX3_getsSlot_150 : decode cX3_getsSlot 150 = .ok (.iconst 1, 1) := dk_4 (dk_at dksX3_getsSlot_6 13 rfl rfl)
theorem dX3_getsSlot_151 : decode cX3_getsSlot 151 = .ok (.iadd, 1) := dk_96 (dk_at dksX3_getsSlot_6 14 rfl rfl)
theorem dX3_getsSlot_152 : decode cX3_getsSlot 152 = .ok (.iastore, 1) := dk_79 (dk_at dksX3_getsSlot_6 15 rfl rfl)
theorem dX3_getsSlot_153 : decode cX3_getsSlot 153 = .ok (.aload_n 0, 1) := dk_42 (dk_at dksX3_getsSlot_6 16 rfl rfl)
theorem dX3_getsSlot_154 : decode cX3_getsSlot 154 = .ok (.getfield 89, 3) := dk_180 0 89 (dk_at dksX3_getsSlot_6 17 rfl rfl)
theorem dX3_getsSlot_157 : decode cX3_getsSlot 157 = .ok (.iload_n 1, 1) := dk_27 (dk_at dksX3_getsSlot_6 20 rfl rfl)
theorem dX3_getsSlot_158 : decode cX3_getsSlot 158 = .ok (.iload_n 3, 1) := dk_29 (dk_at dksX3_getsSlot_6 21 rfl rfl)
theorem dX3_getsSlot_159 : decode cX3_getsSlot 159 = .ok (.iastore, 1) := dk_79 (dk_at dksX3_getsSlot_6 22 rfl rfl)
theorem dX3_getsSlot_160 : decode cX3_getsSlot 160 = .ok (.iconst 1, 1) := dk_4 (dk_at dksX3_getsSlot_6 23 rfl rfl)
theorem dX3_getsSlot_161 : decode cX3_getsSlot 161 = .ok (.ireturn, 1) := dk_172 (dk_at dksX3_getsSlot_7 0 rfl rfl)
theorem dX3_getsSlot_162 : decode cX3_getsSlot 162 = .ok (.iinc 3 1, 3) := dk_132 3 1 (dk_at dksX3_getsSlot_7 1 rfl rfl)
theorem dX3_getsSlot_165 : decode cX3_getsSlot 165 = .ok (.goto (-151), 3) := dk_167 255 105 (dk_at dksX3_getsSlot_7 4 rfl rfl)
theorem dX3_getsSlot_168 : decode cX3_getsSlot 168 = .ok (.iconst 0, 1) := dk_3 (dk_at dksX3_getsSlot_7 7 rfl rfl)
theorem dX3_getsSlot_169 : decode cX3_getsSlot 169 = .ok (.ireturn, 1) := dk_172 (dk_at dksX3_getsSlot_7 8 rfl rfl)
abbrev cX3_relief : ByteArray := prog_9_method_60_code
def yX3_relief : MethodName := ⟨RX3, "relief", "(II)I"⟩
def dkwX3_relief_2 : List UInt8 := [167, 0, 9, 42, 27, 28, 182, 0, 230, 172]
abbrev dktX3_relief_2 : List UInt8 := dkwX3_relief_2 ++ []
def dkwX3_relief_1 : List UInt8 := [154, 0, 5, 2, 172, 42, 182, 0, 227, 28, 2, 160, 0, 15, 42, 180, 0, 96, 16, 49, 27, 104, 46]
abbrev dktX3_relief_1 : List UInt8 := dkwX3_relief_1 ++ dktX3_relief_2
def dkwX3_relief_0 : List UInt8 := [42, 3, 181, 0, 1, 42, 27, 182, 0, 206, 153, 0, 15, 28, 2, 159, 0, 12, 28, 184, 0, 209]
abbrev dktX3_relief_0 : List UInt8 := dkwX3_relief_0 ++ dktX3_relief_1
theorem dksX3_relief_0 : cX3_relief.data.toList.drop 0 = dktX3_relief_0 := by decide +kernel
theorem dksX3_relief_1 : cX3_relief.data.toList.drop 22 = dktX3_relief_1 := dk_seg dksX3_relief_0 22 rfl rfl
theorem dksX3_relief_2 : cX3_relief.data.toList.drop 45 = dktX3_relief_2 := dk_seg dksX3_relief_1 23 rfl rfl
theorem dX3_relief_0 : decode cX3_relief 0 = .ok (.aload_n 0, 1) := dk_42 (dk_at dksX3_relief_0 0 rfl rfl)
theorem dX3_relief_1 : decode cX3_relief 1 = .ok (.iconst 0, 1) := dk_3 (dk_at dksX3_relief_0 1 rfl rfl)
theorem dX3_relief_2 : decode cX3_relief 2 = .ok (.putfield 1, 3) := dk_181 0 1 (dk_at dksX3_relief_0 2 rfl rfl)
theorem dX3_relief_5 : decode cX3_relief 5 = .ok (.aload_n 0, 1) := dk_42 (dk_at dksX3_relief_0 5 rfl rfl)
theorem dX3_relief_6 : decode cX3_relief 6 = .ok (.iload_n 1, 1) := dk_27 (dk_at dksX3_relief_0 6 rfl rfl)
theorem dX3_relief_7 : decode cX3_relief 7 = .ok (.invokevirtual 206, 3) := dk_182 0 206 (dk_at dksX3_relief_0 7 rfl rfl)
theorem dX3_relief_10 : decode cX3_relief 10 = .ok (.ifCond .eq 15, 3) := dk_153 0 15 (dk_at dksX3_relief_0 10 rfl rfl)
theorem dX3_relief_13 : decode cX3_relief 13 = .ok (.iload_n 2, 1) := dk_28 (dk_at dksX3_relief_0 13 rfl rfl)
theorem dX3_relief_14 : decode cX3_relief 14 = .ok (.iconst (-1), 1) := dk_2 (dk_at dksX3_relief_0 14 rfl rfl)
theorem dX3_relief_15 : decode cX3_relief 15 = .ok (.if_icmp .eq 12, 3) := dk_159 0 12 (dk_at dksX3_relief_0 15 rfl rfl)
theorem dX3_relief_18 : decode cX3_relief 18 = .ok (.iload_n 2, 1) := dk_28 (dk_at dksX3_relief_0 18 rfl rfl)
theorem dX3_relief_19 : decode cX3_relief 19 = .ok (.invokestatic 209, 3) := dk_184 0 209 (dk_at dksX3_relief_0 19 rfl rfl)
theorem dX3_relief_22 : decode cX3_relief 22 = .ok (.ifCond .ne 5, 3) := dk_154 0 5 (dk_at dksX3_relief_1 0 rfl rfl)
theorem dX3_relief_25 : decode cX3_relief 25 = .ok (.iconst (-1), 1) := dk_2 (dk_at dksX3_relief_1 3 rfl rfl)
theorem dX3_relief_26 : decode cX3_relief 26 = .ok (.ireturn, 1) := dk_172 (dk_at dksX3_relief_1 4 rfl rfl)
theorem dX3_relief_27 : decode cX3_relief 27 = .ok (.aload_n 0, 1) := dk_42 (dk_at dksX3_relief_1 5 rfl rfl)
theorem dX3_relief_28 : decode cX3_relief 28 = .ok (.invokevirtual 227, 3) := dk_182 0 227 (dk_at dksX3_relief_1 6 rfl rfl)
theorem dX3_relief_31 : decode cX3_relief 31 = .ok (.iload_n 2, 1) := dk_28 (dk_at dksX3_relief_1 9 rfl rfl)
theorem dX3_relief_32 : decode cX3_relief 32 = .ok (.iconst (-1), 1) := dk_2 (dk_at dksX3_relief_1 10 rfl rfl)
theorem dX3_relief_33 : decode cX3_relief 33 = .ok (.if_icmp .ne 15, 3) := dk_160 0 15 (dk_at dksX3_relief_1 11 rfl rfl)
theorem dX3_relief_36 : decode cX3_relief 36 = .ok (.aload_n 0, 1) := dk_42 (dk_at dksX3_relief_1 14 rfl rfl)
theorem dX3_relief_37 : decode cX3_relief 37 = .ok (.getfield 96, 3) := dk_180 0 96 (dk_at dksX3_relief_1 15 rfl rfl)
theorem dX3_relief_40 : decode cX3_relief 40 = .ok (.bipush 49, 2) := dk_16 49 (dk_at dksX3_relief_1 18 rfl rfl)
theorem dX3_relief_42 : decode cX3_relief 42 = .ok (.iload_n 1, 1) := dk_27 (dk_at dksX3_relief_1 20 rfl rfl)
theorem dX3_relief_43 : decode cX3_relief 43 = .ok (.imul, 1) := dk_104 (dk_at dksX3_relief_1 21 rfl rfl)
theorem dX3_relief_44 : decode cX3_relief 44 = .ok (.iaload, 1) := dk_46 (dk_at dksX3_relief_1 22 rfl rfl)
theorem dX3_relief_45 : decode cX3_relief 45 = .ok (.goto 9, 3) := dk_167 0 9 (dk_at dksX3_relief_2 0 rfl rfl)
theorem dX3_relief_48 : decode cX3_relief 48 = .ok (.aload_n 0, 1) := dk_42 (dk_at dksX3_relief_2 3 rfl rfl)
theorem dX3_relief_49 : decode cX3_relief 49 = .ok (.iload_n 1, 1) := dk_27 (dk_at dksX3_relief_2 4 rfl rfl)
theorem dX3_relief_50 : decode cX3_relief 50 = .ok (.iload_n 2, 1) := dk_28 (dk_at dksX3_relief_2 5 rfl rfl)
theorem dX3_relief_51 : decode cX3_relief 51 = .ok (.invokevirtual 230, 3) := dk_182 0 230 (dk_at dksX3_relief_2 6 rfl rfl)
theorem dX3_relief_54 : decode cX3_relief 54 = .ok (.ireturn, 1) := dk_172 (dk_at dksX3_relief_2 9 rfl rfl)
abbrev cX3_laysHelps : ByteArray := prog_9_method_58_code
def yX3_laysHelps : MethodName := ⟨RX3, "laysHelps", "()V"⟩
def dkwX3_laysHelps_6 : List UInt8 := [96, 29, 79, 132, 2, 1, 167, 255, 142, 132, 1, 255, 167, 255, 130, 177]
abbrev dktX3_laysHelps_6 : List UInt8 := dkwX3_laysHelps_6 ++ []
def dkwX3_laysHelps_5 : List UInt8 := [42, 180, 0, 74, 4, 46, 96, 46, 62, 132, 4, 1, 167, 255, 180, 42, 180, 0, 96, 16, 49, 28, 104, 27]
abbrev dktX3_laysHelps_5 : List UInt8 := dkwX3_laysHelps_5 ++ dktX3_laysHelps_6
def dkwX3_laysHelps_4 : List UInt8 := [96, 42, 180, 0, 74, 4, 46, 96, 46, 29, 164, 0, 23, 42, 180, 0, 96, 16, 49, 21, 4, 104, 27, 96]
abbrev dktX3_laysHelps_4 : List UInt8 := dkwX3_laysHelps_4 ++ dktX3_laysHelps_5
def dkwX3_laysHelps_3 : List UInt8 := [4, 46, 96, 16, 48, 163, 0, 58, 21, 4, 28, 159, 0, 46, 42, 180, 0, 96, 16, 49, 21, 4, 104, 27]
abbrev dktX3_laysHelps_3 : List UInt8 := dkwX3_laysHelps_3 ++ dktX3_laysHelps_4
def dkwX3_laysHelps_2 : List UInt8 := [27, 182, 0, 224, 62, 3, 54, 4, 21, 4, 42, 180, 0, 74, 3, 46, 162, 0, 71, 27, 42, 180, 0, 74]
abbrev dktX3_laysHelps_2 : List UInt8 := dkwX3_laysHelps_2 ++ dktX3_laysHelps_3
def dkwX3_laysHelps_1 : List UInt8 := [167, 255, 235, 16, 47, 60, 27, 155, 0, 128, 3, 61, 28, 42, 180, 0, 74, 3, 46, 162, 0, 110, 42, 28]
abbrev dktX3_laysHelps_1 : List UInt8 := dkwX3_laysHelps_1 ++ dktX3_laysHelps_2
def dkwX3_laysHelps_0 : List UInt8 := [3, 60, 27, 6, 162, 0, 22, 42, 180, 0, 96, 16, 49, 27, 104, 16, 48, 96, 3, 79, 132, 1, 1]
abbrev dktX3_laysHelps_0 : List UInt8 := dkwX3_laysHelps_0 ++ dktX3_laysHelps_1
theorem dksX3_laysHelps_0 : cX3_laysHelps.data.toList.drop 0 = dktX3_laysHelps_0 := by decide +kernel
theorem dksX3_laysHelps_1 : cX3_laysHelps.data.toList.drop 23 = dktX3_laysHelps_1 := dk_seg dksX3_laysHelps_0 23 rfl rfl
theorem dksX3_laysHelps_2 : cX3_laysHelps.data.toList.drop 47 = dktX3_laysHelps_2 := dk_seg dksX3_laysHelps_1 24 rfl rfl
theorem dksX3_laysHelps_3 : cX3_laysHelps.data.toList.drop 71 = dktX3_laysHelps_3 := dk_seg dksX3_laysHelps_2 24 rfl rfl
theorem dksX3_laysHelps_4 : cX3_laysHelps.data.toList.drop 95 = dktX3_laysHelps_4 := dk_seg dksX3_laysHelps_3 24 rfl rfl
theorem dksX3_laysHelps_5 : cX3_laysHelps.data.toList.drop 119 = dktX3_laysHelps_5 := dk_seg dksX3_laysHelps_4 24 rfl rfl
theorem dksX3_laysHelps_6 : cX3_laysHelps.data.toList.drop 143 = dktX3_laysHelps_6 := dk_seg dksX3_laysHelps_5 24 rfl rfl
theorem dX3_laysHelps_0 : decode cX3_laysHelps 0 = .ok (.iconst 0, 1) := dk_3 (dk_at dksX3_laysHelps_0 0 rfl rfl)
theorem dX3_laysHelps_1 : decode cX3_laysHelps 1 = .ok (.istore_n 1, 1) := dk_60 (dk_at dksX3_laysHelps_0 1 rfl rfl)
theorem dX3_laysHelps_2 : decode cX3_laysHelps 2 = .ok (.iload_n 1, 1) := dk_27 (dk_at dksX3_laysHelps_0 2 rfl rfl)
theorem dX3_laysHelps_3 : decode cX3_laysHelps 3 = .ok (.iconst 3, 1) := dk_6 (dk_at dksX3_laysHelps_0 3 rfl rfl)
theorem dX3_laysHelps_4 : decode cX3_laysHelps 4 = .ok (.if_icmp .ge 22, 3) := dk_162 0 22 (dk_at dksX3_laysHelps_0 4 rfl rfl)
theorem dX3_laysHelps_7 : decode cX3_laysHelps 7 = .ok (.aload_n 0, 1) := dk_42 (dk_at dksX3_laysHelps_0 7 rfl rfl)
theorem dX3_laysHelps_8 : decode cX3_laysHelps 8 = .ok (.getfield 96, 3) := dk_180 0 96 (dk_at dksX3_laysHelps_0 8 rfl rfl)
theorem dX3_laysHelps_11 : decode cX3_laysHelps 11 = .ok (.bipush 49, 2) := dk_16 49 (dk_at dksX3_laysHelps_0 11 rfl rfl)
theorem dX3_laysHelps_13 : decode cX3_laysHelps 13 = .ok (.iload_n 1, 1) := dk_27 (dk_at dksX3_laysHelps_0 13 rfl rfl)
theorem dX3_laysHelps_14 : decode cX3_laysHelps 14 = .ok (.imul, 1) := dk_104 (dk_at dksX3_laysHelps_0 14 rfl rfl)
theorem dX3_laysHelps_15 : decode cX3_laysHelps 15 = .ok (.bipush 48, 2) := dk_16 48 (dk_at dksX3_laysHelps_0 15 rfl rfl)
theorem dX3_laysHelps_17 : decode cX3_laysHelps 17 = .ok (.iadd, 1) := dk_96 (dk_at dksX3_laysHelps_0 17 rfl rfl)
theorem dX3_laysHelps_18 : decode cX3_laysHelps 18 = .ok (.iconst 0, 1) := dk_3 (dk_at dksX3_laysHelps_0 18 rfl rfl)
theorem dX3_laysHelps_19 : decode cX3_laysHelps 19 = .ok (.iastore, 1) := dk_79 (dk_at dksX3_laysHelps_0 19 rfl rfl)
theorem dX3_laysHelps_20 : decode cX3_laysHelps 20 = .ok (.iinc 1 1, 3) := dk_132 1 1 (dk_at dksX3_laysHelps_0 20 rfl rfl)
theorem dX3_laysHelps_23 : decode cX3_laysHelps 23 = .ok (.goto (-21), 3) := dk_167 255 235 (dk_at dksX3_laysHelps_1 0 rfl rfl)
theorem dX3_laysHelps_26 : decode cX3_laysHelps 26 = .ok (.bipush 47, 2) := dk_16 47 (dk_at dksX3_laysHelps_1 3 rfl rfl)
theorem dX3_laysHelps_28 : decode cX3_laysHelps 28 = .ok (.istore_n 1, 1) := dk_60 (dk_at dksX3_laysHelps_1 5 rfl rfl)
theorem dX3_laysHelps_29 : decode cX3_laysHelps 29 = .ok (.iload_n 1, 1) := dk_27 (dk_at dksX3_laysHelps_1 6 rfl rfl)
theorem dX3_laysHelps_30 : decode cX3_laysHelps 30 = .ok (.ifCond .lt 128, 3) := dk_155 0 128 (dk_at dksX3_laysHelps_1 7 rfl rfl)
theorem dX3_laysHelps_33 : decode cX3_laysHelps 33 = .ok (.iconst 0, 1) := dk_3 (dk_at dksX3_laysHelps_1 10 rfl rfl)
theorem dX3_laysHelps_34 : decode cX3_laysHelps 34 = .ok (.istore_n 2, 1) := dk_61 (dk_at dksX3_laysHelps_1 11 rfl rfl)
theorem dX3_laysHelps_35 : decode cX3_laysHelps 35 = .ok (.iload_n 2, 1) := dk_28 (dk_at dksX3_laysHelps_1 12 rfl rfl)
theorem dX3_laysHelps_36 : decode cX3_laysHelps 36 = .ok (.aload_n 0, 1) := dk_42 (dk_at dksX3_laysHelps_1 13 rfl rfl)
theorem dX3_laysHelps_37 : decode cX3_laysHelps 37 = .ok (.getfield 74, 3) := dk_180 0 74 (dk_at dksX3_laysHelps_1 14 rfl rfl)
theorem dX3_laysHelps_40 : decode cX3_laysHelps 40 = .ok (.iconst 0, 1) := dk_3 (dk_at dksX3_laysHelps_1 17 rfl rfl)
theorem dX3_laysHelps_41 : decode cX3_laysHelps 41 = .ok (.iaload, 1) := dk_46 (dk_at dksX3_laysHelps_1 18 rfl rfl)
theorem dX3_laysHelps_42 : decode cX3_laysHelps 42 = .ok (.if_icmp .ge 110, 3) := dk_162 0 110 (dk_at dksX3_laysHelps_1 19 rfl rfl)
theorem dX3_laysHelps_45 : decode cX3_laysHelps 45 = .ok (.aload_n 0, 1) := dk_42 (dk_at dksX3_laysHelps_1 22 rfl rfl)
theorem dX3_laysHelps_46 : decode cX3_laysHelps 46 = .ok (.iload_n 2, 1) := dk_28 (dk_at dksX3_laysHelps_1 23 rfl rfl)
theorem dX3_laysHelps_47 : decode cX3_laysHelps 47 = .ok (.iload_n 1, 1) := dk_27 (dk_at dksX3_laysHelps_2 0 rfl rfl)
theorem dX3_laysHelps_48 : decode cX3_laysHelps 48 = .ok (.invokevirtual 224, 3) := dk_182 0 224 (dk_at dksX3_laysHelps_2 1 rfl rfl)
theorem dX3_laysHelps_51 : decode cX3_laysHelps 51 = .ok (.istore_n 3, 1) := dk_62 (dk_at dksX3_laysHelps_2 4 rfl rfl)
theorem dX3_laysHelps_52 : decode cX3_laysHelps 52 = .ok (.iconst 0, 1) := dk_3 (dk_at dksX3_laysHelps_2 5 rfl rfl)
theorem dX3_laysHelps_53 : decode cX3_laysHelps 53 = .ok (.istore 4, 2) := dk_54 4 (dk_at dksX3_laysHelps_2 6 rfl rfl)
theorem dX3_laysHelps_55 : decode cX3_laysHelps 55 = .ok (.iload 4, 2) := dk_21 4 (dk_at dksX3_laysHelps_2 8 rfl rfl)
theorem dX3_laysHelps_57 : decode cX3_laysHelps 57 = .ok (.aload_n 0, 1) := dk_42 (dk_at dksX3_laysHelps_2 10 rfl rfl)
theorem dX3_laysHelps_58 : decode cX3_laysHelps 58 = .ok (.getfield 74, 3) := dk_180 0 74 (dk_at dksX3_laysHelps_2 11 rfl rfl)
theorem dX3_laysHelps_61 : decode cX3_laysHelps 61 = .ok (.iconst 0, 1) := dk_3 (dk_at dksX3_laysHelps_2 14 rfl rfl)
theorem dX3_laysHelps_62 : decode cX3_laysHelps 62 = .ok (.iaload, 1) := dk_46 (dk_at dksX3_laysHelps_2 15 rfl rfl)
theorem dX3_laysHelps_63 : decode cX3_laysHelps 63 = .ok (.if_icmp .ge 71, 3) := dk_162 0 71 (dk_at dksX3_laysHelps_2 16 rfl rfl)
theorem dX3_laysHelps_66 : decode cX3_laysHelps 66 = .ok (.iload_n 1, 1) := dk_27 (dk_at dksX3_laysHelps_2 19 rfl rfl)
theorem dX3_laysHelps_67 : decode cX3_laysHelps 67 = .ok (.aload_n 0, 1) := dk_42 (dk_at dksX3_laysHelps_2 20 rfl rfl)
theorem dX3_laysHelps_68 : decode cX3_laysHelps 68 = .ok (.getfield 74, 3) := dk_180 0 74 (dk_at dksX3_laysHelps_2 21 rfl rfl)
theorem dX3_laysHelps_71 : decode cX3_laysHelps 71 = .ok (.iconst 1, 1) := dk_4 (dk_at dksX3_laysHelps_3 0 rfl rfl)
theorem dX3_laysHelps_72 : decode cX3_laysHelps 72 = .ok (.iaload, 1) := dk_46 (dk_at dksX3_laysHelps_3 1 rfl rfl)
theorem dX3_laysHelps_73 : decode cX3_laysHelps 73 = .ok (.iadd, 1) := dk_96 (dk_at dksX3_laysHelps_3 2 rfl rfl)
theorem dX3_laysHelps_74 : decode cX3_laysHelps 74 = .ok (.bipush 48, 2) := dk_16 48 (dk_at dksX3_laysHelps_3 3 rfl rfl)
theorem dX3_laysHelps_76 : decode cX3_laysHelps 76 = .ok (.if_icmp .gt 58, 3) := dk_163 0 58 (dk_at dksX3_laysHelps_3 5 rfl rfl)
theorem dX3_laysHelps_79 : decode cX3_laysHelps 79 = .ok (.iload 4, 2) := dk_21 4 (dk_at dksX3_laysHelps_3 8 rfl rfl)
theorem dX3_laysHelps_81 : decode cX3_laysHelps 81 = .ok (.iload_n 2, 1) := dk_28 (dk_at dksX3_laysHelps_3 10 rfl rfl)
theorem dX3_laysHelps_82 : decode cX3_laysHelps 82 = .ok (.if_icmp .eq 46, 3) := dk_159 0 46 (dk_at dksX3_laysHelps_3 11 rfl rfl)
theorem dX3_laysHelps_85 : decode cX3_laysHelps 85 = .ok (.aload_n 0, 1) := dk_42 (dk_at dksX3_laysHelps_3 14 rfl rfl)
theorem dX3_laysHelps_86 : decode cX3_laysHelps 86 = .ok (.getfield 96, 3) := dk_180 0 96 (dk_at dksX3_laysHelps_3 15 rfl rfl)
theorem dX3_laysHelps_89 : decode cX3_laysHelps 89 = .ok (.bipush 49, 2) := dk_16 49 (dk_at dksX3_laysHelps_3 18 rfl rfl)
theorem dX3_laysHelps_91 : decode cX3_laysHelps 91 = .ok (.iload 4, 2) := dk_21 4 (dk_at dksX3_laysHelps_3 20 rfl rfl)
theorem dX3_laysHelps_93 : decode cX3_laysHelps 93 = .ok (.imul, 1) := dk_104 (dk_at dksX3_laysHelps_3 22 rfl rfl)
theorem dX3_laysHelps_94 : decode cX3_laysHelps 94 = .ok (.iload_n 1, 1) := dk_27 (dk_at dksX3_laysHelps_3 23 rfl rfl)
theorem dX3_laysHelps_95 : decode cX3_laysHelps 95 = .ok (.iadd, 1) := dk_96 (dk_at dksX3_laysHelps_4 0 rfl rfl)
theorem dX3_laysHelps_96 : decode cX3_laysHelps 96 = .ok (.aload_n 0, 1) := dk_42 (dk_at dksX3_laysHelps_4 1 rfl rfl)
theorem dX3_laysHelps_97 : decode cX3_laysHelps 97 = .ok (.getfield 74, 3) := dk_180 0 74 (dk_at dksX3_laysHelps_4 2 rfl rfl)
theorem dX3_laysHelps_100 : decode cX3_laysHelps 100 = .ok (.iconst 1, 1) := dk_4 (dk_at dksX3_laysHelps_4 5 rfl rfl)
theorem dX3_laysHelps_101 : decode cX3_laysHelps 101 = .ok (.iaload, 1) := dk_46 (dk_at dksX3_laysHelps_4 6 rfl rfl)
theorem dX3_laysHelps_102 : decode cX3_laysHelps 102 = .ok (.iadd, 1) := dk_96 (dk_at dksX3_laysHelps_4 7 rfl rfl)
theorem dX3_laysHelps_103 : decode cX3_laysHelps 103 = .ok (.iaload, 1) := dk_46 (dk_at dksX3_laysHelps_4 8 rfl rfl)
theorem dX3_laysHelps_104 : decode cX3_laysHelps 104 = .ok (.iload_n 3, 1) := dk_29 (dk_at dksX3_laysHelps_4 9 rfl rfl)
theorem dX3_laysHelps_105 : decode cX3_laysHelps 105 = .ok (.if_icmp .le 23, 3) := dk_164 0 23 (dk_at dksX3_laysHelps_4 10 rfl rfl)
theorem dX3_laysHelps_108 : decode cX3_laysHelps 108 = .ok (.aload_n 0, 1) := dk_42 (dk_at dksX3_laysHelps_4 13 rfl rfl)
theorem dX3_laysHelps_109 : decode cX3_laysHelps 109 = .ok (.getfield 96, 3) := dk_180 0 96 (dk_at dksX3_laysHelps_4 14 rfl rfl)
theorem dX3_laysHelps_112 : decode cX3_laysHelps 112 = .ok (.bipush 49, 2) := dk_16 49 (dk_at dksX3_laysHelps_4 17 rfl rfl)
theorem dX3_laysHelps_114 : decode cX3_laysHelps 114 = .ok (.iload 4, 2) := dk_21 4 (dk_at dksX3_laysHelps_4 19 rfl rfl)
theorem dX3_laysHelps_116 : decode cX3_laysHelps 116 = .ok (.imul, 1) := dk_104 (dk_at dksX3_laysHelps_4 21 rfl rfl)
theorem dX3_laysHelps_117 : decode cX3_laysHelps 117 = .ok (.iload_n 1, 1) := dk_27 (dk_at dksX3_laysHelps_4 22 rfl rfl)
theorem dX3_laysHelps_118 : decode cX3_laysHelps 118 = .ok (.iadd, 1) := dk_96 (dk_at dksX3_laysHelps_4 23 rfl rfl)
theorem dX3_laysHelps_119 : decode cX3_laysHelps 119 = .ok (.aload_n 0, 1) := dk_42 (dk_at dksX3_laysHelps_5 0 rfl rfl)
theorem dX3_laysHelps_120 : decode cX3_laysHelps 120 = .ok (.getfield 74, 3) := dk_180 0 74 (dk_at dksX3_laysHelps_5 1 rfl rfl)
theorem dX3_laysHelps_123 : decode cX3_laysHelps 123 = .ok (.iconst 1, 1) := dk_4 (dk_at dksX3_laysHelps_5 4 rfl rfl)
theorem dX3_laysHelps_124 : decode cX3_laysHelps 124 = .ok (.iaload, 1) := dk_46 (dk_at dksX3_laysHelps_5 5 rfl rfl)
theorem dX3_laysHelps_125 : decode cX3_laysHelps 125 = .ok (.iadd, 1) := dk_96 (dk_at dksX3_laysHelps_5 6 rfl rfl)
theorem dX3_laysHelps_126 : decode cX3_laysHelps 126 = .ok (.iaload, 1) := dk_46 (dk_at dksX3_laysHelps_5 7 rfl rfl)
theorem dX3_laysHelps_127 : decode cX3_laysHelps 127 = .ok (.istore_n 3, 1) := dk_62 (dk_at dksX3_laysHelps_5 8 rfl rfl)
theorem dX3_laysHelps_128 : decode cX3_laysHelps 128 = .ok (.iinc 4 1, 3) := dk_132 4 1 (dk_at dksX3_laysHelps_5 9 rfl rfl)
theorem dX3_laysHelps_131 : decode cX3_laysHelps 131 = .ok (.goto (-76), 3) := dk_167 255 180 (dk_at dksX3_laysHelps_5 12 rfl rfl)
theorem dX3_laysHelps_134 : decode cX3_laysHelps 134 = .ok (.aload_n 0, 1) := dk_42 (dk_at dksX3_laysHelps_5 15 rfl rfl)
theorem dX3_laysHelps_135 : decode cX3_laysHelps 135 = .ok (.getfield 96, 3) := dk_180 0 96 (dk_at dksX3_laysHelps_5 16 rfl rfl)
theorem dX3_laysHelps_138 : decode cX3_laysHelps 138 = .ok (.bipush 49, 2) := dk_16 49 (dk_at dksX3_laysHelps_5 19 rfl rfl)
theorem dX3_laysHelps_140 : decode cX3_laysHelps 140 = .ok (.iload_n 2, 1) := dk_28 (dk_at dksX3_laysHelps_5 21 rfl rfl)
theorem dX3_laysHelps_141 : decode cX3_laysHelps 141 = .ok (.imul, 1) := dk_104 (dk_at dksX3_laysHelps_5 22 rfl rfl)
theorem dX3_laysHelps_142 : decode cX3_laysHelps 142 = .ok (.iload_n 1, 1) := dk_27 (dk_at dksX3_laysHelps_5 23 rfl rfl)
theorem dX3_laysHelps_143 : decode cX3_laysHelps 143 = .ok (.iadd, 1) := dk_96 (dk_at dksX3_laysHelps_6 0 rfl rfl)
theorem dX3_laysHelps_144 : decode cX3_laysHelps 144 = .ok (.iload_n 3, 1) := dk_29 (dk_at dksX3_laysHelps_6 1 rfl rfl)
theorem dX3_laysHelps_145 : decode cX3_laysHelps 145 = .ok (.iastore, 1) := dk_79 (dk_at dksX3_laysHelps_6 2 rfl rfl)
theorem dX3_laysHelps_146 : decode cX3_laysHelps 146 = .ok (.iinc 2 1, 3) := dk_132 2 1 (dk_at dksX3_laysHelps_6 3 rfl rfl)
theorem dX3_laysHelps_149 : decode cX3_laysHelps 149 = .ok (.goto (-114), 3) := dk_167 255 142 (dk_at dksX3_laysHelps_6 6 rfl rfl)
theorem dX3_laysHelps_152 : decode cX3_laysHelps 152 = .ok (.iinc 1 (-1), 3) := dk_132 1 255 (dk_at dksX3_laysHelps_6 9 rfl rfl)
theorem dX3_laysHelps_155 : decode cX3_laysHelps 155 = .ok (.goto (-126), 3) := dk_167 255 130 (dk_at dksX3_laysHelps_6 12 rfl rfl)
theorem dX3_laysHelps_158 : decode cX3_laysHelps 158 = .ok (.return_, 1) := dk_177 (dk_at dksX3_laysHelps_6 15 rfl rfl)
abbrev cX3_stays : ByteArray := prog_9_method_57_code
def yX3_stays : MethodName := ⟨RX3, "stays", "(II)I"⟩
def dkwX3_stays_0 : List UInt8 := [42, 27, 28, 182, 0, 221, 42, 180, 0, 96, 16, 49, 27, 104, 28, 96, 4, 96, 46, 96, 172]
abbrev dktX3_stays_0 : List UInt8 := dkwX3_stays_0 ++ []
theorem dksX3_stays_0 : cX3_stays.data.toList.drop 0 = dktX3_stays_0 := by decide +kernel
theorem dX3_stays_0 : decode cX3_stays 0 = .ok (.aload_n 0, 1) := dk_42 (dk_at dksX3_stays_0 0 rfl rfl)
theorem dX3_stays_1 : decode cX3_stays 1 = .ok (.iload_n 1, 1) := dk_27 (dk_at dksX3_stays_0 1 rfl rfl)
theorem dX3_stays_2 : decode cX3_stays 2 = .ok (.iload_n 2, 1) := dk_28 (dk_at dksX3_stays_0 2 rfl rfl)
theorem dX3_stays_3 : decode cX3_stays 3 = .ok (.invokevirtual 221, 3) := dk_182 0 221 (dk_at dksX3_stays_0 3 rfl rfl)
theorem dX3_stays_6 : decode cX3_stays 6 = .ok (.aload_n 0, 1) := dk_42 (dk_at dksX3_stays_0 6 rfl rfl)
theorem dX3_stays_7 : decode cX3_stays 7 = .ok (.getfield 96, 3) := dk_180 0 96 (dk_at dksX3_stays_0 7 rfl rfl)
theorem dX3_stays_10 : decode cX3_stays 10 = .ok (.bipush 49, 2) := dk_16 49 (dk_at dksX3_stays_0 10 rfl rfl)
theorem dX3_stays_12 : decode cX3_stays 12 = .ok (.iload_n 1, 1) := dk_27 (dk_at dksX3_stays_0 12 rfl rfl)
theorem dX3_stays_13 : decode cX3_stays 13 = .ok (.imul, 1) := dk_104 (dk_at dksX3_stays_0 13 rfl rfl)
theorem dX3_stays_14 : decode cX3_stays 14 = .ok (.iload_n 2, 1) := dk_28 (dk_at dksX3_stays_0 14 rfl rfl)
theorem dX3_stays_15 : decode cX3_stays 15 = .ok (.iadd, 1) := dk_96 (dk_at dksX3_stays_0 15 rfl rfl)
theorem dX3_stays_16 : decode cX3_stays 16 = .ok (.iconst 1, 1) := dk_4 (dk_at dksX3_stays_0 16 rfl rfl)
theorem dX3_stays_17 : decode cX3_stays 17 = .ok (.iadd, 1) := dk_96 (dk_at dksX3_stays_0 17 rfl rfl)
theorem dX3_stays_18 : decode cX3_stays 18 = .ok (.iaload, 1) := dk_46 (dk_at dksX3_stays_0 18 rfl rfl)
theorem dX3_stays_19 : decode cX3_stays 19 = .ok (.iadd, 1) := dk_96 (dk_at dksX3_stays_0 19 rfl rfl)
theorem dX3_stays_20 : decode cX3_stays 20 = .ok (.ireturn, 1) := dk_172 (dk_at dksX3_stays_0 20 rfl rfl)
abbrev cX3_helpsAt : ByteArray := prog_9_method_56_code
def yX3_helpsAt : MethodName := ⟨RX3, "helpsAt", "(II)I"⟩
def dkwX3_helpsAt_0 : List UInt8 := [42, 27, 28, 182, 0, 177, 158, 0, 7, 4, 167, 0, 4, 3, 172]
abbrev dktX3_helpsAt_0 : List UInt8 := dkwX3_helpsAt_0 ++ []
theorem dksX3_helpsAt_0 : cX3_helpsAt.data.toList.drop 0 = dktX3_helpsAt_0 := by decide +kernel
theorem dX3_helpsAt_0 : decode cX3_helpsAt 0 = .ok (.aload_n 0, 1) := dk_42 (dk_at dksX3_helpsAt_0 0 rfl rfl)
theorem dX3_helpsAt_1 : decode cX3_helpsAt 1 = .ok (.iload_n 1, 1) := dk_27 (dk_at dksX3_helpsAt_0 1 rfl rfl)
theorem dX3_helpsAt_2 : decode cX3_helpsAt 2 = .ok (.iload_n 2, 1) := dk_28 (dk_at dksX3_helpsAt_0 2 rfl rfl)
theorem dX3_helpsAt_3 : decode cX3_helpsAt 3 = .ok (.invokevirtual 177, 3) := dk_182 0 177 (dk_at dksX3_helpsAt_0 3 rfl rfl)
theorem dX3_helpsAt_6 : decode cX3_helpsAt 6 = .ok (.ifCond .le 7, 3) := dk_158 0 7 (dk_at dksX3_helpsAt_0 6 rfl rfl)
theorem dX3_helpsAt_9 : decode cX3_helpsAt 9 = .ok (.iconst 1, 1) := dk_4 (dk_at dksX3_helpsAt_0 9 rfl rfl)
theorem dX3_helpsAt_10 : decode cX3_helpsAt 10 = .ok (.goto 4, 3) := dk_167 0 4 (dk_at dksX3_helpsAt_0 10 rfl rfl)
theorem dX3_helpsAt_13 : decode cX3_helpsAt 13 = .ok (.iconst 0, 1) := dk_3 (dk_at dksX3_helpsAt_0 13 rfl rfl)
theorem dX3_helpsAt_14 : decode cX3_helpsAt 14 = .ok (.ireturn, 1) := dk_172 (dk_at dksX3_helpsAt_0 14 rfl rfl)
abbrev cX3_wayAt : ByteArray := prog_9_method_59_code
def yX3_wayAt : MethodName := ⟨RX3, "wayAt", "(II)I"⟩
def dkwX3_wayAt_5 : List UInt8 := [167, 255, 216, 21, 6, 62, 167, 255, 141, 29, 172]
abbrev dktX3_wayAt_5 : List UInt8 := dkwX3_wayAt_5 ++ []
def dkwX3_wayAt_4 : List UInt8 := [46, 21, 5, 160, 0, 16, 42, 21, 6, 21, 4, 182, 0, 224, 21, 5, 159, 0, 9, 132, 6, 1]
abbrev dktX3_wayAt_4 : List UInt8 := dkwX3_wayAt_4 ++ dktX3_wayAt_5
def dkwX3_wayAt_3 : List UInt8 := [16, 9, 172, 3, 54, 6, 21, 6, 29, 159, 0, 34, 42, 180, 0, 96, 16, 49, 21, 6, 104, 21, 4, 96]
abbrev dktX3_wayAt_3 : List UInt8 := dkwX3_wayAt_3 ++ dktX3_wayAt_4
def dkwX3_wayAt_2 : List UInt8 := [132, 4, 1, 167, 255, 213, 21, 4, 42, 180, 0, 74, 4, 46, 96, 54, 4, 28, 21, 4, 162, 0, 6]
abbrev dktX3_wayAt_2 : List UInt8 := dkwX3_wayAt_2 ++ dktX3_wayAt_3
def dkwX3_wayAt_1 : List UInt8 := [54, 5, 42, 29, 21, 4, 182, 0, 224, 21, 5, 160, 0, 17, 21, 4, 28, 160, 0, 5, 29, 172]
abbrev dktX3_wayAt_1 : List UInt8 := dkwX3_wayAt_1 ++ dktX3_wayAt_2
def dkwX3_wayAt_0 : List UInt8 := [27, 62, 3, 54, 4, 21, 4, 28, 163, 0, 115, 42, 180, 0, 96, 16, 49, 29, 104, 21, 4, 96, 46]
abbrev dktX3_wayAt_0 : List UInt8 := dkwX3_wayAt_0 ++ dktX3_wayAt_1
theorem dksX3_wayAt_0 : cX3_wayAt.data.toList.drop 0 = dktX3_wayAt_0 := by decide +kernel
theorem dksX3_wayAt_1 : cX3_wayAt.data.toList.drop 23 = dktX3_wayAt_1 := dk_seg dksX3_wayAt_0 23 rfl rfl
theorem dksX3_wayAt_2 : cX3_wayAt.data.toList.drop 45 = dktX3_wayAt_2 := dk_seg dksX3_wayAt_1 22 rfl rfl
theorem dksX3_wayAt_3 : cX3_wayAt.data.toList.drop 68 = dktX3_wayAt_3 := dk_seg dksX3_wayAt_2 23 rfl rfl
theorem dksX3_wayAt_4 : cX3_wayAt.data.toList.drop 92 = dktX3_wayAt_4 := dk_seg dksX3_wayAt_3 24 rfl rfl
theorem dksX3_wayAt_5 : cX3_wayAt.data.toList.drop 114 = dktX3_wayAt_5 := dk_seg dksX3_wayAt_4 22 rfl rfl
theorem dX3_wayAt_0 : decode cX3_wayAt 0 = .ok (.iload_n 1, 1) := dk_27 (dk_at dksX3_wayAt_0 0 rfl rfl)
theorem dX3_wayAt_1 : decode cX3_wayAt 1 = .ok (.istore_n 3, 1) := dk_62 (dk_at dksX3_wayAt_0 1 rfl rfl)
theorem dX3_wayAt_2 : decode cX3_wayAt 2 = .ok (.iconst 0, 1) := dk_3 (dk_at dksX3_wayAt_0 2 rfl rfl)
theorem dX3_wayAt_3 : decode cX3_wayAt 3 = .ok (.istore 4, 2) := dk_54 4 (dk_at dksX3_wayAt_0 3 rfl rfl)
theorem dX3_wayAt_5 : decode cX3_wayAt 5 = .ok (.iload 4, 2) := dk_21 4 (dk_at dksX3_wayAt_0 5 rfl rfl)
theorem dX3_wayAt_7 : decode cX3_wayAt 7 = .ok (.iload_n 2, 1) := dk_28 (dk_at dksX3_wayAt_0 7 rfl rfl)
theorem dX3_wayAt_8 : decode cX3_wayAt 8 = .ok (.if_icmp .gt 115, 3) := dk_163 0 115 (dk_at dksX3_wayAt_0 8 rfl rfl)
theorem dX3_wayAt_11 : decode cX3_wayAt 11 = .ok (.aload_n 0, 1) := dk_42 (dk_at dksX3_wayAt_0 11 rfl rfl)
theorem dX3_wayAt_12 : decode cX3_wayAt 12 = .ok (.getfield 96, 3) := dk_180 0 96 (dk_at dksX3_wayAt_0 12 rfl rfl)
theorem dX3_wayAt_15 : decode cX3_wayAt 15 = .ok (.bipush 49, 2) := dk_16 49 (dk_at dksX3_wayAt_0 15 rfl rfl)
theorem dX3_wayAt_17 : decode cX3_wayAt 17 = .ok (.iload_n 3, 1) := dk_29 (dk_at dksX3_wayAt_0 17 rfl rfl)
theorem dX3_wayAt_18 : decode cX3_wayAt 18 = .ok (.imul, 1) := dk_104 (dk_at dksX3_wayAt_0 18 rfl rfl)
theorem dX3_wayAt_19 : decode cX3_wayAt 19 = .ok (.iload 4, 2) := dk_21 4 (dk_at dksX3_wayAt_0 19 rfl rfl)
theorem dX3_wayAt_21 : decode cX3_wayAt 21 = .ok (.iadd, 1) := dk_96 (dk_at dksX3_wayAt_0 21 rfl rfl)
theorem dX3_wayAt_22 : decode cX3_wayAt 22 = .ok (.iaload, 1) := dk_46 (dk_at dksX3_wayAt_0 22 rfl rfl)
theorem dX3_wayAt_23 : decode cX3_wayAt 23 = .ok (.istore 5, 2) := dk_54 5 (dk_at dksX3_wayAt_1 0 rfl rfl)
theorem dX3_wayAt_25 : decode cX3_wayAt 25 = .ok (.aload_n 0, 1) := dk_42 (dk_at dksX3_wayAt_1 2 rfl rfl)
theorem dX3_wayAt_26 : decode cX3_wayAt 26 = .ok (.iload_n 3, 1) := dk_29 (dk_at dksX3_wayAt_1 3 rfl rfl)
theorem dX3_wayAt_27 : decode cX3_wayAt 27 = .ok (.iload 4, 2) := dk_21 4 (dk_at dksX3_wayAt_1 4 rfl rfl)
theorem dX3_wayAt_29 : decode cX3_wayAt 29 = .ok (.invokevirtual 224, 3) := dk_182 0 224 (dk_at dksX3_wayAt_1 6 rfl rfl)
theorem dX3_wayAt_32 : decode cX3_wayAt 32 = .ok (.iload 5, 2) := dk_21 5 (dk_at dksX3_wayAt_1 9 rfl rfl)
theorem dX3_wayAt_34 : decode cX3_wayAt 34 = .ok (.if_icmp .ne 17, 3) := dk_160 0 17 (dk_at dksX3_wayAt_1 11 rfl rfl)
theorem dX3_wayAt_37 : decode cX3_wayAt 37 = .ok (.iload 4, 2) := dk_21 4 (dk_at dksX3_wayAt_1 14 rfl rfl)
theorem dX3_wayAt_39 : decode cX3_wayAt 39 = .ok (.iload_n 2, 1) := dk_28 (dk_at dksX3_wayAt_1 16 rfl rfl)
theorem dX3_wayAt_40 : decode cX3_wayAt 40 = .ok (.if_icmp .ne 5, 3) := dk_160 0 5 (dk_at dksX3_wayAt_1 17 rfl rfl)
theorem dX3_wayAt_43 : decode cX3_wayAt 43 = .ok (.iload_n 3, 1) := dk_29 (dk_at dksX3_wayAt_1 20 rfl rfl)
theorem dX3_wayAt_44 : decode cX3_wayAt 44 = .ok (.ireturn, 1) := dk_172 (dk_at dksX3_wayAt_1 21 rfl rfl)
theorem dX3_wayAt_45 : decode cX3_wayAt 45 = .ok (.iinc 4 1, 3) := dk_132 4 1 (dk_at dksX3_wayAt_2 0 rfl rfl)
theorem dX3_wayAt_48 : decode cX3_wayAt 48 = .ok (.goto (-43), 3) := dk_167 255 213 (dk_at dksX3_wayAt_2 3 rfl rfl)
theorem dX3_wayAt_51 : decode cX3_wayAt 51 = .ok (.iload 4, 2) := dk_21 4 (dk_at dksX3_wayAt_2 6 rfl rfl)
theorem dX3_wayAt_53 : decode cX3_wayAt 53 = .ok (.aload_n 0, 1) := dk_42 (dk_at dksX3_wayAt_2 8 rfl rfl)
theorem dX3_wayAt_54 : decode cX3_wayAt 54 = .ok (.getfield 74, 3) := dk_180 0 74 (dk_at dksX3_wayAt_2 9 rfl rfl)
theorem dX3_wayAt_57 : decode cX3_wayAt 57 = .ok (.iconst 1, 1) := dk_4 (dk_at dksX3_wayAt_2 12 rfl rfl)
theorem dX3_wayAt_58 : decode cX3_wayAt 58 = .ok (.iaload, 1) := dk_46 (dk_at dksX3_wayAt_2 13 rfl rfl)
theorem dX3_wayAt_59 : decode cX3_wayAt 59 = .ok (.iadd, 1) := dk_96 (dk_at dksX3_wayAt_2 14 rfl rfl)
theorem dX3_wayAt_60 : decode cX3_wayAt 60 = .ok (.istore 4, 2) := dk_54 4 (dk_at dksX3_wayAt_2 15 rfl rfl)
theorem dX3_wayAt_62 : decode cX3_wayAt 62 = .ok (.iload_n 2, 1) := dk_28 (dk_at dksX3_wayAt_2 17 rfl rfl)
theorem dX3_wayAt_63 : decode cX3_wayAt 63 = .ok (.iload 4, 2) := dk_21 4 (dk_at dksX3_wayAt_2 18 rfl rfl)
theorem dX3_wayAt_65 : decode cX3_wayAt 65 = .ok (.if_icmp .ge 6, 3) := dk_162 0 6 (dk_at dksX3_wayAt_2 20 rfl rfl)
theorem dX3_wayAt_68 : decode cX3_wayAt 68 = .ok (.bipush 9, 2) := dk_16 9 (dk_at dksX3_wayAt_3 0 rfl rfl)
theorem dX3_wayAt_70 : decode cX3_wayAt 70 = .ok (.ireturn, 1) := dk_172 (dk_at dksX3_wayAt_3 2 rfl rfl)
theorem dX3_wayAt_71 : decode cX3_wayAt 71 = .ok (.iconst 0, 1) := dk_3 (dk_at dksX3_wayAt_3 3 rfl rfl)
theorem dX3_wayAt_72 : decode cX3_wayAt 72 = .ok (.istore 6, 2) := dk_54 6 (dk_at dksX3_wayAt_3 4 rfl rfl)
theorem dX3_wayAt_74 : decode cX3_wayAt 74 = .ok (.iload 6, 2) := dk_21 6 (dk_at dksX3_wayAt_3 6 rfl rfl)
theorem dX3_wayAt_76 : decode cX3_wayAt 76 = .ok (.iload_n 3, 1) := dk_29 (dk_at dksX3_wayAt_3 8 rfl rfl)
theorem dX3_wayAt_77 : decode cX3_wayAt 77 = .ok (.if_icmp .eq 34, 3) := dk_159 0 34 (dk_at dksX3_wayAt_3 9 rfl rfl)
theorem dX3_wayAt_80 : decode cX3_wayAt 80 = .ok (.aload_n 0, 1) := dk_42 (dk_at dksX3_wayAt_3 12 rfl rfl)
theorem dX3_wayAt_81 : decode cX3_wayAt 81 = .ok (.getfield 96, 3) := dk_180 0 96 (dk_at dksX3_wayAt_3 13 rfl rfl)
theorem dX3_wayAt_84 : decode cX3_wayAt 84 = .ok (.bipush 49, 2) := dk_16 49 (dk_at dksX3_wayAt_3 16 rfl rfl)
theorem dX3_wayAt_86 : decode cX3_wayAt 86 = .ok (.iload 6, 2) := dk_21 6 (dk_at dksX3_wayAt_3 18 rfl rfl)
theorem dX3_wayAt_88 : decode cX3_wayAt 88 = .ok (.imul, 1) := dk_104 (dk_at dksX3_wayAt_3 20 rfl rfl)
theorem dX3_wayAt_89 : decode cX3_wayAt 89 = .ok (.iload 4, 2) := dk_21 4 (dk_at dksX3_wayAt_3 21 rfl rfl)
theorem dX3_wayAt_91 : decode cX3_wayAt 91 = .ok (.iadd, 1) := dk_96 (dk_at dksX3_wayAt_3 23 rfl rfl)
theorem dX3_wayAt_92 : decode cX3_wayAt 92 = .ok (.iaload, 1) := dk_46 (dk_at dksX3_wayAt_4 0 rfl rfl)
theorem dX3_wayAt_93 : decode cX3_wayAt 93 = .ok (.iload 5, 2) := dk_21 5 (dk_at dksX3_wayAt_4 1 rfl rfl)
theorem dX3_wayAt_95 : decode cX3_wayAt 95 = .ok (.if_icmp .ne 16, 3) := dk_160 0 16 (dk_at dksX3_wayAt_4 3 rfl rfl)
theorem dX3_wayAt_98 : decode cX3_wayAt 98 = .ok (.aload_n 0, 1) := dk_42 (dk_at dksX3_wayAt_4 6 rfl rfl)
theorem dX3_wayAt_99 : decode cX3_wayAt 99 = .ok (.iload 6, 2) := dk_21 6 (dk_at dksX3_wayAt_4 7 rfl rfl)
theorem dX3_wayAt_101 : decode cX3_wayAt 101 = .ok (.iload 4, 2) := dk_21 4 (dk_at dksX3_wayAt_4 9 rfl rfl)
theorem dX3_wayAt_103 : decode cX3_wayAt 103 = .ok (.invokevirtual 224, 3) := dk_182 0 224 (dk_at dksX3_wayAt_4 11 rfl rfl)
theorem dX3_wayAt_106 : decode cX3_wayAt 106 = .ok (.iload 5, 2) := dk_21 5 (dk_at dksX3_wayAt_4 14 rfl rfl)
theorem dX3_wayAt_108 : decode cX3_wayAt 108 = .ok (.if_icmp .eq 9, 3) := dk_159 0 9 (dk_at dksX3_wayAt_4 16 rfl rfl)
theorem dX3_wayAt_111 : decode cX3_wayAt 111 = .ok (.iinc 6 1, 3) := dk_132 6 1 (dk_at dksX3_wayAt_4 19 rfl rfl)
theorem dX3_wayAt_114 : decode cX3_wayAt 114 = .ok (.goto (-40), 3) := dk_167 255 216 (dk_at dksX3_wayAt_5 0 rfl rfl)
theorem dX3_wayAt_117 : decode cX3_wayAt 117 = .ok (.iload 6, 2) := dk_21 6 (dk_at dksX3_wayAt_5 3 rfl rfl)
theorem dX3_wayAt_119 : decode cX3_wayAt 119 = .ok (.istore_n 3, 1) := dk_62 (dk_at dksX3_wayAt_5 5 rfl rfl)
theorem dX3_wayAt_120 : decode cX3_wayAt 120 = .ok (.goto (-115), 3) := dk_167 255 141 (dk_at dksX3_wayAt_5 6 rfl rfl)
theorem dX3_wayAt_123 : decode cX3_wayAt 123 = .ok (.iload_n 3, 1) := dk_29 (dk_at dksX3_wayAt_5 9 rfl rfl)
theorem dX3_wayAt_124 : decode cX3_wayAt 124 = .ok (.ireturn, 1) := dk_172 (dk_at dksX3_wayAt_5 10 rfl rfl)
abbrev cX3_worst : ByteArray := prog_9_method_61_code
def yX3_worst : MethodName := ⟨RX3, "worst", "()I"⟩
def dkwX3_worst_1 : List UInt8 := [163, 0, 6, 167, 0, 11, 42, 29, 182, 0, 180, 61, 29, 60, 132, 3, 1, 167, 255, 227, 27, 172]
abbrev dktX3_worst_1 : List UInt8 := dkwX3_worst_1 ++ []
def dkwX3_worst_0 : List UInt8 := [42, 3, 181, 0, 1, 2, 60, 3, 61, 3, 62, 29, 16, 48, 162, 0, 29, 42, 29, 182, 0, 180, 28]
abbrev dktX3_worst_0 : List UInt8 := dkwX3_worst_0 ++ dktX3_worst_1
theorem dksX3_worst_0 : cX3_worst.data.toList.drop 0 = dktX3_worst_0 := by decide +kernel
theorem dksX3_worst_1 : cX3_worst.data.toList.drop 23 = dktX3_worst_1 := dk_seg dksX3_worst_0 23 rfl rfl
theorem dX3_worst_0 : decode cX3_worst 0 = .ok (.aload_n 0, 1) := dk_42 (dk_at dksX3_worst_0 0 rfl rfl)
theorem dX3_worst_1 : decode cX3_worst 1 = .ok (.iconst 0, 1) := dk_3 (dk_at dksX3_worst_0 1 rfl rfl)
theorem dX3_worst_2 : decode cX3_worst 2 = .ok (.putfield 1, 3) := dk_181 0 1 (dk_at dksX3_worst_0 2 rfl rfl)
theorem dX3_worst_5 : decode cX3_worst 5 = .ok (.iconst (-1), 1) := dk_2 (dk_at dksX3_worst_0 5 rfl rfl)
theorem dX3_worst_6 : decode cX3_worst 6 = .ok (.istore_n 1, 1) := dk_60 (dk_at dksX3_worst_0 6 rfl rfl)
theorem dX3_worst_7 : decode cX3_worst 7 = .ok (.iconst 0, 1) := dk_3 (dk_at dksX3_worst_0 7 rfl rfl)
theorem dX3_worst_8 : decode cX3_worst 8 = .ok (.istore_n 2, 1) := dk_61 (dk_at dksX3_worst_0 8 rfl rfl)
theorem dX3_worst_9 : decode cX3_worst 9 = .ok (.iconst 0, 1) := dk_3 (dk_at dksX3_worst_0 9 rfl rfl)
theorem dX3_worst_10 : decode cX3_worst 10 = .ok (.istore_n 3, 1) := dk_62 (dk_at dksX3_worst_0 10 rfl rfl)
theorem dX3_worst_11 : decode cX3_worst 11 = .ok (.iload_n 3, 1) := dk_29 (dk_at dksX3_worst_0 11 rfl rfl)
theorem dX3_worst_12 : decode cX3_worst 12 = .ok (.bipush 48, 2) := dk_16 48 (dk_at dksX3_worst_0 12 rfl rfl)
theorem dX3_worst_14 : decode cX3_worst 14 = .ok (.if_icmp .ge 29, 3) := dk_162 0 29 (dk_at dksX3_worst_0 14 rfl rfl)
theorem dX3_worst_17 : decode cX3_worst 17 = .ok (.aload_n 0, 1) := dk_42 (dk_at dksX3_worst_0 17 rfl rfl)
theorem dX3_worst_18 : decode cX3_worst 18 = .ok (.iload_n 3, 1) := dk_29 (dk_at dksX3_worst_0 18 rfl rfl)
theorem dX3_worst_19 : decode cX3_worst 19 = .ok (.invokevirtual 180, 3) := dk_182 0 180 (dk_at dksX3_worst_0 19 rfl rfl)
theorem dX3_worst_22 : decode cX3_worst 22 = .ok (.iload_n 2, 1) := dk_28 (dk_at dksX3_worst_0 22 rfl rfl)
theorem dX3_worst_23 : decode cX3_worst 23 = .ok (.if_icmp .gt 6, 3) := dk_163 0 6 (dk_at dksX3_worst_1 0 rfl rfl)
theorem dX3_worst_26 : decode cX3_worst 26 = .ok (.goto 11, 3) := dk_167 0 11 (dk_at dksX3_worst_1 3 rfl rfl)
theorem dX3_worst_29 : decode cX3_worst 29 = .ok (.aload_n 0, 1) := dk_42 (dk_at dksX3_worst_1 6 rfl rfl)
theorem dX3_worst_30 : decode cX3_worst 30 = .ok (.iload_n 3, 1) := dk_29 (dk_at dksX3_worst_1 7 rfl rfl)
theorem dX3_worst_31 : decode cX3_worst 31 = .ok (.invokevirtual 180, 3) := dk_182 0 180 (dk_at dksX3_worst_1 8 rfl rfl)
theorem dX3_worst_34 : decode cX3_worst 34 = .ok (.istore_n 2, 1) := dk_61 (dk_at dksX3_worst_1 11 rfl rfl)
theorem dX3_worst_35 : decode cX3_worst 35 = .ok (.iload_n 3, 1) := dk_29 (dk_at dksX3_worst_1 12 rfl rfl)
theorem dX3_worst_36 : decode cX3_worst 36 = .ok (.istore_n 1, 1) := dk_60 (dk_at dksX3_worst_1 13 rfl rfl)
theorem dX3_worst_37 : decode cX3_worst 37 = .ok (.iinc 3 1, 3) := dk_132 3 1 (dk_at dksX3_worst_1 14 rfl rfl)
theorem dX3_worst_40 : decode cX3_worst 40 = .ok (.goto (-29), 3) := dk_167 255 227 (dk_at dksX3_worst_1 17 rfl rfl)
theorem dX3_worst_43 : decode cX3_worst 43 = .ok (.iload_n 1, 1) := dk_27 (dk_at dksX3_worst_1 20 rfl rfl)
theorem dX3_worst_44 : decode cX3_worst 44 = .ok (.ireturn, 1) := dk_172 (dk_at dksX3_worst_1 21 rfl rfl)
abbrev cX3_place : ByteArray := prog_9_method_63_code
def yX3_place : MethodName := ⟨RX3, "place", "(II)I"⟩
def dkwX3_place_2 : List UInt8 := [182, 0, 233, 42, 27, 28, 182, 0, 183, 3, 172]
abbrev dktX3_place_2 : List UInt8 := dkwX3_place_2 ++ []
def dkwX3_place_1 : List UInt8 := [182, 0, 162, 28, 160, 0, 5, 2, 172, 42, 27, 28, 182, 0, 191, 62, 29, 158, 0, 5, 29, 172, 42]
abbrev dktX3_place_1 : List UInt8 := dkwX3_place_1 ++ dktX3_place_2
def dkwX3_place_0 : List UInt8 := [42, 3, 181, 0, 1, 42, 27, 182, 0, 203, 153, 0, 19, 28, 184, 0, 209, 153, 0, 12, 42, 27]
abbrev dktX3_place_0 : List UInt8 := dkwX3_place_0 ++ dktX3_place_1
theorem dksX3_place_0 : cX3_place.data.toList.drop 0 = dktX3_place_0 := by decide +kernel
theorem dksX3_place_1 : cX3_place.data.toList.drop 22 = dktX3_place_1 := dk_seg dksX3_place_0 22 rfl rfl
theorem dksX3_place_2 : cX3_place.data.toList.drop 45 = dktX3_place_2 := dk_seg dksX3_place_1 23 rfl rfl
theorem dX3_place_0 : decode cX3_place 0 = .ok (.aload_n 0, 1) := dk_42 (dk_at dksX3_place_0 0 rfl rfl)
theorem dX3_place_1 : decode cX3_place 1 = .ok (.iconst 0, 1) := dk_3 (dk_at dksX3_place_0 1 rfl rfl)
theorem dX3_place_2 : decode cX3_place 2 = .ok (.putfield 1, 3) := dk_181 0 1 (dk_at dksX3_place_0 2 rfl rfl)
theorem dX3_place_5 : decode cX3_place 5 = .ok (.aload_n 0, 1) := dk_42 (dk_at dksX3_place_0 5 rfl rfl)
theorem dX3_place_6 : decode cX3_place 6 = .ok (.iload_n 1, 1) := dk_27 (dk_at dksX3_place_0 6 rfl rfl)
theorem dX3_place_7 : decode cX3_place 7 = .ok (.invokevirtual 203, 3) := dk_182 0 203 (dk_at dksX3_place_0 7 rfl rfl)
theorem dX3_place_10 : decode cX3_place 10 = .ok (.ifCond .eq 19, 3) := dk_153 0 19 (dk_at dksX3_place_0 10 rfl rfl)
theorem dX3_place_13 : decode cX3_place 13 = .ok (.iload_n 2, 1) := dk_28 (dk_at dksX3_place_0 13 rfl rfl)
theorem dX3_place_14 : decode cX3_place 14 = .ok (.invokestatic 209, 3) := dk_184 0 209 (dk_at dksX3_place_0 14 rfl rfl)
theorem dX3_place_17 : decode cX3_place 17 = .ok (.ifCond .eq 12, 3) := dk_153 0 12 (dk_at dksX3_place_0 17 rfl rfl)
theorem dX3_place_20 : decode cX3_place 20 = .ok (.aload_n 0, 1) := dk_42 (dk_at dksX3_place_0 20 rfl rfl)
theorem dX3_place_21 : decode cX3_place 21 = .ok (.iload_n 1, 1) := dk_27 (dk_at dksX3_place_0 21 rfl rfl)
theorem dX3_place_22 : decode cX3_place 22 = .ok (.invokevirtual 162, 3) := dk_182 0 162 (dk_at dksX3_place_1 0 rfl rfl)
theorem dX3_place_25 : decode cX3_place 25 = .ok (.iload_n 2, 1) := dk_28 (dk_at dksX3_place_1 3 rfl rfl)
theorem dX3_place_26 : decode cX3_place 26 = .ok (.if_icmp .ne 5, 3) := dk_160 0 5 (dk_at dksX3_place_1 4 rfl rfl)
theorem dX3_place_29 : decode cX3_place 29 = .ok (.iconst (-1), 1) := dk_2 (dk_at dksX3_place_1 7 rfl rfl)
theorem dX3_place_30 : decode cX3_place 30 = .ok (.ireturn, 1) := dk_172 (dk_at dksX3_place_1 8 rfl rfl)
theorem dX3_place_31 : decode cX3_place 31 = .ok (.aload_n 0, 1) := dk_42 (dk_at dksX3_place_1 9 rfl rfl)
theorem dX3_place_32 : decode cX3_place 32 = .ok (.iload_n 1, 1) := dk_27 (dk_at dksX3_place_1 10 rfl rfl)
theorem dX3_place_33 : decode cX3_place 33 = .ok (.iload_n 2, 1) := dk_28 (dk_at dksX3_place_1 11 rfl rfl)
theorem dX3_place_34 : decode cX3_place 34 = .ok (.invokevirtual 191, 3) := dk_182 0 191 (dk_at dksX3_place_1 12 rfl rfl)
theorem dX3_place_37 : decode cX3_place 37 = .ok (.istore_n 3, 1) := dk_62 (dk_at dksX3_place_1 15 rfl rfl)
theorem dX3_place_38 : decode cX3_place 38 = .ok (.iload_n 3, 1) := dk_29 (dk_at dksX3_place_1 16 rfl rfl)
theorem dX3_place_39 : decode cX3_place 39 = .ok (.ifCond .le 5, 3) := dk_158 0 5 (dk_at dksX3_place_1 17 rfl rfl)
theorem dX3_place_42 : decode cX3_place 42 = .ok (.iload_n 3, 1) := dk_29 (dk_at dksX3_place_1 20 rfl rfl)
theorem dX3_place_43 : decode cX3_place 43 = .ok (.ireturn, 1) := dk_172 (dk_at dksX3_place_1 21 rfl rfl)
theorem dX3_place_44 : decode cX3_place 44 = .ok (.aload_n 0, 1) := dk_42 (dk_at dksX3_place_1 22 rfl rfl)
theorem dX3_place_45 : decode cX3_place 45 = .ok (.invokevirtual 233, 3) := dk_182 0 233 (dk_at dksX3_place_2 0 rfl rfl)
theorem dX3_place_48 : decode cX3_place 48 = .ok (.aload_n 0, 1) := dk_42 (dk_at dksX3_place_2 3 rfl rfl)
theorem dX3_place_49 : decode cX3_place 49 = .ok (.iload_n 1, 1) := dk_27 (dk_at dksX3_place_2 4 rfl rfl)
theorem dX3_place_50 : decode cX3_place 50 = .ok (.iload_n 2, 1) := dk_28 (dk_at dksX3_place_2 5 rfl rfl)
theorem dX3_place_51 : decode cX3_place 51 = .ok (.invokevirtual 183, 3) := dk_182 0 183 (dk_at dksX3_place_2 6 rfl rfl)
theorem dX3_place_54 : decode cX3_place 54 = .ok (.iconst 0, 1) := dk_3 (dk_at dksX3_place_2 9 rfl rfl)
theorem dX3_place_55 : decode cX3_place 55 = .ok (.ireturn, 1) := dk_172 (dk_at dksX3_place_2 10 rfl rfl)
abbrev cX3_snap : ByteArray := prog_9_method_62_code
def yX3_snap : MethodName := ⟨RX3, "snap", "()V"⟩
def dkwX3_snap_4 : List UInt8 := [181, 0, 152, 177]
abbrev dktX3_snap_4 : List UInt8 := dkwX3_snap_4 ++ []
def dkwX3_snap_3 : List UInt8 := [27, 96, 42, 180, 0, 74, 27, 46, 79, 132, 1, 1, 167, 255, 225, 42, 89, 180, 0, 152, 4, 96]
abbrev dktX3_snap_3 : List UInt8 := dkwX3_snap_3 ++ dktX3_snap_4
def dkwX3_snap_2 : List UInt8 := [181, 0, 152, 3, 60, 27, 17, 1, 52, 162, 0, 30, 42, 180, 0, 80, 17, 1, 52, 42, 180, 0, 152, 104]
abbrev dktX3_snap_2 : List UInt8 := dkwX3_snap_2 ++ dktX3_snap_3
def dkwX3_snap_1 : List UInt8 := [180, 0, 80, 27, 17, 1, 52, 96, 46, 79, 132, 1, 1, 167, 255, 230, 42, 89, 180, 0, 152, 4, 100]
abbrev dktX3_snap_1 : List UInt8 := dkwX3_snap_1 ++ dktX3_snap_2
def dkwX3_snap_0 : List UInt8 := [42, 180, 0, 152, 16, 10, 160, 0, 44, 3, 60, 27, 17, 10, 212, 162, 0, 25, 42, 180, 0, 80, 27, 42]
abbrev dktX3_snap_0 : List UInt8 := dkwX3_snap_0 ++ dktX3_snap_1
theorem dksX3_snap_0 : cX3_snap.data.toList.drop 0 = dktX3_snap_0 := by decide +kernel
theorem dksX3_snap_1 : cX3_snap.data.toList.drop 24 = dktX3_snap_1 := dk_seg dksX3_snap_0 24 rfl rfl
theorem dksX3_snap_2 : cX3_snap.data.toList.drop 47 = dktX3_snap_2 := dk_seg dksX3_snap_1 23 rfl rfl
theorem dksX3_snap_3 : cX3_snap.data.toList.drop 71 = dktX3_snap_3 := dk_seg dksX3_snap_2 24 rfl rfl
theorem dksX3_snap_4 : cX3_snap.data.toList.drop 93 = dktX3_snap_4 := dk_seg dksX3_snap_3 22 rfl rfl
theorem dX3_snap_0 : decode cX3_snap 0 = .ok (.aload_n 0, 1) := dk_42 (dk_at dksX3_snap_0 0 rfl rfl)
theorem dX3_snap_1 : decode cX3_snap 1 = .ok (.getfield 152, 3) := dk_180 0 152 (dk_at dksX3_snap_0 1 rfl rfl)
theorem dX3_snap_4 : decode cX3_snap 4 = .ok (.bipush 10, 2) := dk_16 10 (dk_at dksX3_snap_0 4 rfl rfl)
theorem dX3_snap_6 : decode cX3_snap 6 = .ok (.if_icmp .ne 44, 3) := dk_160 0 44 (dk_at dksX3_snap_0 6 rfl rfl)
theorem dX3_snap_9 : decode cX3_snap 9 = .ok (.iconst 0, 1) := dk_3 (dk_at dksX3_snap_0 9 rfl rfl)
theorem dX3_snap_10 : decode cX3_snap 10 = .ok (.istore_n 1, 1) := dk_60 (dk_at dksX3_snap_0 10 rfl rfl)
theorem dX3_snap_11 : decode cX3_snap 11 = .ok (.iload_n 1, 1) := dk_27 (dk_at dksX3_snap_0 11 rfl rfl)
theorem dX3_snap_12 : decode cX3_snap 12 = .ok (.sipush 2772, 3) := dk_17 10 212 (dk_at dksX3_snap_0 12 rfl rfl)
theorem dX3_snap_15 : decode cX3_snap 15 = .ok (.if_icmp .ge 25, 3) := dk_162 0 25 (dk_at dksX3_snap_0 15 rfl rfl)
theorem dX3_snap_18 : decode cX3_snap 18 = .ok (.aload_n 0, 1) := dk_42 (dk_at dksX3_snap_0 18 rfl rfl)
theorem dX3_snap_19 : decode cX3_snap 19 = .ok (.getfield 80, 3) := dk_180 0 80 (dk_at dksX3_snap_0 19 rfl rfl)
theorem dX3_snap_22 : decode cX3_snap 22 = .ok (.iload_n 1, 1) := dk_27 (dk_at dksX3_snap_0 22 rfl rfl)
theorem dX3_snap_23 : decode cX3_snap 23 = .ok (.aload_n 0, 1) := dk_42 (dk_at dksX3_snap_0 23 rfl rfl)
theorem dX3_snap_24 : decode cX3_snap 24 = .ok (.getfield 80, 3) := dk_180 0 80 (dk_at dksX3_snap_1 0 rfl rfl)
theorem dX3_snap_27 : decode cX3_snap 27 = .ok (.iload_n 1, 1) := dk_27 (dk_at dksX3_snap_1 3 rfl rfl)
theorem dX3_snap_28 : decode cX3_snap 28 = .ok (.sipush 308, 3) := dk_17 1 52 (dk_at dksX3_snap_1 4 rfl rfl)
theorem dX3_snap_31 : decode cX3_snap 31 = .ok (.iadd, 1) := dk_96 (dk_at dksX3_snap_1 7 rfl rfl)
theorem dX3_snap_32 : decode cX3_snap 32 = .ok (.iaload, 1) := dk_46 (dk_at dksX3_snap_1 8 rfl rfl)
theorem dX3_snap_33 : decode cX3_snap 33 = .ok (.iastore, 1) := dk_79 (dk_at dksX3_snap_1 9 rfl rfl)
theorem dX3_snap_34 : decode cX3_snap 34 = .ok (.iinc 1 1, 3) := dk_132 1 1 (dk_at dksX3_snap_1 10 rfl rfl)
theorem dX3_snap_37 : decode cX3_snap 37 = .ok (.goto (-26), 3) := dk_167 255 230 (dk_at dksX3_snap_1 13 rfl rfl)
theorem dX3_snap_40 : decode cX3_snap 40 = .ok (.aload_n 0, 1) := dk_42 (dk_at dksX3_snap_1 16 rfl rfl)
theorem dX3_snap_41 : decode cX3_snap 41 = .ok (.dup, 1) := dk_89 (dk_at dksX3_snap_1 17 rfl rfl)
theorem dX3_snap_42 : decode cX3_snap 42 = .ok (.getfield 152, 3) := dk_180 0 152 (dk_at dksX3_snap_1 18 rfl rfl)
theorem dX3_snap_45 : decode cX3_snap 45 = .ok (.iconst 1, 1) := dk_4 (dk_at dksX3_snap_1 21 rfl rfl)
theorem dX3_snap_46 : decode cX3_snap 46 = .ok (.isub, 1) := dk_100 (dk_at dksX3_snap_1 22 rfl rfl)
theorem dX3_snap_47 : decode cX3_snap 47 = .ok (.putfield 152, 3) := dk_181 0 152 (dk_at dksX3_snap_2 0 rfl rfl)
theorem dX3_snap_50 : decode cX3_snap 50 = .ok (.iconst 0, 1) := dk_3 (dk_at dksX3_snap_2 3 rfl rfl)
theorem dX3_snap_51 : decode cX3_snap 51 = .ok (.istore_n 1, 1) := dk_60 (dk_at dksX3_snap_2 4 rfl rfl)
theorem dX3_snap_52 : decode cX3_snap 52 = .ok (.iload_n 1, 1) := dk_27 (dk_at dksX3_snap_2 5 rfl rfl)
theorem dX3_snap_53 : decode cX3_snap 53 = .ok (.sipush 308, 3) := dk_17 1 52 (dk_at dksX3_snap_2 6 rfl rfl)
theorem dX3_snap_56 : decode cX3_snap 56 = .ok (.if_icmp .ge 30, 3) := dk_162 0 30 (dk_at dksX3_snap_2 9 rfl rfl)
theorem dX3_snap_59 : decode cX3_snap 59 = .ok (.aload_n 0, 1) := dk_42 (dk_at dksX3_snap_2 12 rfl rfl)
theorem dX3_snap_60 : decode cX3_snap 60 = .ok (.getfield 80, 3) := dk_180 0 80 (dk_at dksX3_snap_2 13 rfl rfl)
theorem dX3_snap_63 : decode cX3_snap 63 = .ok (.sipush 308, 3) := dk_17 1 52 (dk_at dksX3_snap_2 16 rfl rfl)
theorem dX3_snap_66 : decode cX3_snap 66 = .ok (.aload_n 0, 1) := dk_42 (dk_at dksX3_snap_2 19 rfl rfl)
theorem dX3_snap_67 : decode cX3_snap 67 = .ok (.getfield 152, 3) := dk_180 0 152 (dk_at dksX3_snap_2 20 rfl rfl)
theorem dX3_snap_70 : decode cX3_snap 70 = .ok (.imul, 1) := dk_104 (dk_at dksX3_snap_2 23 rfl rfl)
theorem dX3_snap_71 : decode cX3_snap 71 = .ok (.iload_n 1, 1) := dk_27 (dk_at dksX3_snap_3 0 rfl rfl)
theorem dX3_snap_72 : decode cX3_snap 72 = .ok (.iadd, 1) := dk_96 (dk_at dksX3_snap_3 1 rfl rfl)
theorem dX3_snap_73 : decode cX3_snap 73 = .ok (.aload_n 0, 1) := dk_42 (dk_at dksX3_snap_3 2 rfl rfl)
theorem dX3_snap_74 : decode cX3_snap 74 = .ok (.getfield 74, 3) := dk_180 0 74 (dk_at dksX3_snap_3 3 rfl rfl)
theorem dX3_snap_77 : decode cX3_snap 77 = .ok (.iload_n 1, 1) := dk_27 (dk_at dksX3_snap_3 6 rfl rfl)
theorem dX3_snap_78 : decode cX3_snap 78 = .ok (.iaload, 1) := dk_46 (dk_at dksX3_snap_3 7 rfl rfl)
theorem dX3_snap_79 : decode cX3_snap 79 = .ok (.iastore, 1) := dk_79 (dk_at dksX3_snap_3 8 rfl rfl)
theorem dX3_snap_80 : decode cX3_snap 80 = .ok (.iinc 1 1, 3) := dk_132 1 1 (dk_at dksX3_snap_3 9 rfl rfl)
theorem dX3_snap_83 : decode cX3_snap 83 = .ok (.goto (-31), 3) := dk_167 255 225 (dk_at dksX3_snap_3 12 rfl rfl)
theorem dX3_snap_86 : decode cX3_snap 86 = .ok (.aload_n 0, 1) := dk_42 (dk_at dksX3_snap_3 15 rfl rfl)
theorem dX3_snap_87 : decode cX3_snap 87 = .ok (.dup, 1) := dk_89 (dk_at dksX3_snap_3 16 rfl rfl)
theorem dX3_snap_88 : decode cX3_snap 88 = .ok (.getfield 152, 3) := dk_180 0 152 (dk_at dksX3_snap_3 17 rfl rfl)
theorem dX3_snap_91 : decode cX3_snap 91 = .ok (.iconst 1, 1) := dk_4 (dk_at dksX3_snap_3 20 rfl rfl)
theorem dX3_snap_92 : decode cX3_snap 92 = .ok (.iadd, 1) := dk_96 (dk_at dksX3_snap_3 21 rfl rfl)
theorem dX3_snap_93 : decode cX3_snap 93 = .ok (.putfield 152, 3) := dk_181 0 152 (dk_at dksX3_snap_4 0 rfl rfl)
theorem dX3_snap_96 : decode cX3_snap 96 = .ok (.return_, 1) := dk_177 (dk_at dksX3_snap_4 3 rfl rfl)
abbrev cX3_take : ByteArray := prog_9_method_64_code
def yX3_take : MethodName := ⟨RX3, "take", "(I)I"⟩
def dkwX3_take_1 : List UInt8 := [42, 182, 0, 233, 42, 27, 182, 0, 162, 61, 42, 27, 2, 182, 0, 183, 28, 172]
abbrev dktX3_take_1 : List UInt8 := dkwX3_take_1 ++ []
def dkwX3_take_0 : List UInt8 := [42, 3, 181, 0, 1, 42, 27, 182, 0, 203, 153, 0, 12, 42, 27, 182, 0, 162, 2, 160, 0, 5, 2, 172]
abbrev dktX3_take_0 : List UInt8 := dkwX3_take_0 ++ dktX3_take_1
theorem dksX3_take_0 : cX3_take.data.toList.drop 0 = dktX3_take_0 := by decide +kernel
theorem dksX3_take_1 : cX3_take.data.toList.drop 24 = dktX3_take_1 := dk_seg dksX3_take_0 24 rfl rfl
theorem dX3_take_0 : decode cX3_take 0 = .ok (.aload_n 0, 1) := dk_42 (dk_at dksX3_take_0 0 rfl rfl)
theorem dX3_take_1 : decode cX3_take 1 = .ok (.iconst 0, 1) := dk_3 (dk_at dksX3_take_0 1 rfl rfl)
theorem dX3_take_2 : decode cX3_take 2 = .ok (.putfield 1, 3) := dk_181 0 1 (dk_at dksX3_take_0 2 rfl rfl)
theorem dX3_take_5 : decode cX3_take 5 = .ok (.aload_n 0, 1) := dk_42 (dk_at dksX3_take_0 5 rfl rfl)
theorem dX3_take_6 : decode cX3_take 6 = .ok (.iload_n 1, 1) := dk_27 (dk_at dksX3_take_0 6 rfl rfl)
theorem dX3_take_7 : decode cX3_take 7 = .ok (.invokevirtual 203, 3) := dk_182 0 203 (dk_at dksX3_take_0 7 rfl rfl)
theorem dX3_take_10 : decode cX3_take 10 = .ok (.ifCond .eq 12, 3) := dk_153 0 12 (dk_at dksX3_take_0 10 rfl rfl)
theorem dX3_take_13 : decode cX3_take 13 = .ok (.aload_n 0, 1) := dk_42 (dk_at dksX3_take_0 13 rfl rfl)
theorem dX3_take_14 : decode cX3_take 14 = .ok (.iload_n 1, 1) := dk_27 (dk_at dksX3_take_0 14 rfl rfl)
theorem dX3_take_15 : decode cX3_take 15 = .ok (.invokevirtual 162, 3) := dk_182 0 162 (dk_at dksX3_take_0 15 rfl rfl)
theorem dX3_take_18 : decode cX3_take 18 = .ok (.iconst (-1), 1) := dk_2 (dk_at dksX3_take_0 18 rfl rfl)
theorem dX3_take_19 : decode cX3_take 19 = .ok (.if_icmp .ne 5, 3) := dk_160 0 5 (dk_at dksX3_take_0 19 rfl rfl)
theorem dX3_take_22 : decode cX3_take 22 = .ok (.iconst (-1), 1) := dk_2 (dk_at dksX3_take_0 22 rfl rfl)
theorem dX3_take_23 : decode cX3_take 23 = .ok (.ireturn, 1) := dk_172 (dk_at dksX3_take_0 23 rfl rfl)
theorem dX3_take_24 : decode cX3_take 24 = .ok (.aload_n 0, 1) := dk_42 (dk_at dksX3_take_1 0 rfl rfl)
theorem dX3_take_25 : decode cX3_take 25 = .ok (.invokevirtual 233, 3) := dk_182 0 233 (dk_at dksX3_take_1 1 rfl rfl)
theorem dX3_take_28 : decode cX3_take 28 = .ok (.aload_n 0, 1) := dk_42 (dk_at dksX3_take_1 4 rfl rfl)
theorem dX3_take_29 : decode cX3_take 29 = .ok (.iload_n 1, 1) := dk_27 (dk_at dksX3_take_1 5 rfl rfl)
theorem dX3_take_30 : decode cX3_take 30 = .ok (.invokevirtual 162, 3) := dk_182 0 162 (dk_at dksX3_take_1 6 rfl rfl)
theorem dX3_take_33 : decode cX3_take 33 = .ok (.istore_n 2, 1) := dk_61 (dk_at dksX3_take_1 9 rfl rfl)
theorem dX3_take_34 : decode cX3_take 34 = .ok (.aload_n 0, 1) := dk_42 (dk_at dksX3_take_1 10 rfl rfl)
theorem dX3_take_35 : decode cX3_take 35 = .ok (.iload_n 1, 1) := dk_27 (dk_at dksX3_take_1 11 rfl rfl)
theorem dX3_take_36 : decode cX3_take 36 = .ok (.iconst (-1), 1) := dk_2 (dk_at dksX3_take_1 12 rfl rfl)
theorem dX3_take_37 : decode cX3_take 37 = .ok (.invokevirtual 183, 3) := dk_182 0 183 (dk_at dksX3_take_1 13 rfl rfl)
theorem dX3_take_40 : decode cX3_take 40 = .ok (.iload_n 2, 1) := dk_28 (dk_at dksX3_take_1 16 rfl rfl)
theorem dX3_take_41 : decode cX3_take 41 = .ok (.ireturn, 1) := dk_172 (dk_at dksX3_take_1 17 rfl rfl)
abbrev cX3_fill : ByteArray := prog_9_method_65_code
def yX3_fill : MethodName := ⟨RX3, "fill", "()I"⟩
def dkwX3_fill_2 : List UInt8 := [167, 0, 12, 42, 28, 29, 182, 0, 183, 132, 1, 1, 132, 2, 1, 167, 255, 207, 27, 172]
abbrev dktX3_fill_2 : List UInt8 := dkwX3_fill_2 ++ []
def dkwX3_fill_1 : List UInt8 := [28, 182, 0, 162, 2, 159, 0, 6, 167, 0, 27, 42, 28, 182, 0, 212, 62, 29, 16, 254, 160, 0, 6]
abbrev dktX3_fill_1 : List UInt8 := dkwX3_fill_1 ++ dktX3_fill_2
def dkwX3_fill_0 : List UInt8 := [42, 3, 181, 0, 1, 42, 182, 0, 233, 3, 60, 3, 61, 28, 42, 180, 0, 74, 6, 46, 162, 0, 45, 42]
abbrev dktX3_fill_0 : List UInt8 := dkwX3_fill_0 ++ dktX3_fill_1
theorem dksX3_fill_0 : cX3_fill.data.toList.drop 0 = dktX3_fill_0 := by decide +kernel
theorem dksX3_fill_1 : cX3_fill.data.toList.drop 24 = dktX3_fill_1 := dk_seg dksX3_fill_0 24 rfl rfl
theorem dksX3_fill_2 : cX3_fill.data.toList.drop 47 = dktX3_fill_2 := dk_seg dksX3_fill_1 23 rfl rfl
theorem dX3_fill_0 : decode cX3_fill 0 = .ok (.aload_n 0, 1) := dk_42 (dk_at dksX3_fill_0 0 rfl rfl)
theorem dX3_fill_1 : decode cX3_fill 1 = .ok (.iconst 0, 1) := dk_3 (dk_at dksX3_fill_0 1 rfl rfl)
theorem dX3_fill_2 : decode cX3_fill 2 = .ok (.putfield 1, 3) := dk_181 0 1 (dk_at dksX3_fill_0 2 rfl rfl)
theorem dX3_fill_5 : decode cX3_fill 5 = .ok (.aload_n 0, 1) := dk_42 (dk_at dksX3_fill_0 5 rfl rfl)
theorem dX3_fill_6 : decode cX3_fill 6 = .ok (.invokevirtual 233, 3) := dk_182 0 233 (dk_at dksX3_fill_0 6 rfl rfl)
theorem dX3_fill_9 : decode cX3_fill 9 = .ok (.iconst 0, 1) := dk_3 (dk_at dksX3_fill_0 9 rfl rfl)
theorem dX3_fill_10 : decode cX3_fill 10 = .ok (.istore_n 1, 1) := dk_60 (dk_at dksX3_fill_0 10 rfl rfl)
theorem dX3_fill_11 : decode cX3_fill 11 = .ok (.iconst 0, 1) := dk_3 (dk_at dksX3_fill_0 11 rfl rfl)
theorem dX3_fill_12 : decode cX3_fill 12 = .ok (.istore_n 2, 1) := dk_61 (dk_at dksX3_fill_0 12 rfl rfl)
theorem dX3_fill_13 : decode cX3_fill 13 = .ok (.iload_n 2, 1) := dk_28 (dk_at dksX3_fill_0 13 rfl rfl)
theorem dX3_fill_14 : decode cX3_fill 14 = .ok (.aload_n 0, 1) := dk_42 (dk_at dksX3_fill_0 14 rfl rfl)
theorem dX3_fill_15 : decode cX3_fill 15 = .ok (.getfield 74, 3) := dk_180 0 74 (dk_at dksX3_fill_0 15 rfl rfl)
theorem dX3_fill_18 : decode cX3_fill 18 = .ok (.iconst 3, 1) := dk_6 (dk_at dksX3_fill_0 18 rfl rfl)
theorem dX3_fill_19 : decode cX3_fill 19 = .ok (.iaload, 1) := dk_46 (dk_at dksX3_fill_0 19 rfl rfl)
theorem dX3_fill_20 : decode cX3_fill 20 = .ok (.if_icmp .ge 45, 3) := dk_162 0 45 (dk_at dksX3_fill_0 20 rfl rfl)
theorem dX3_fill_23 : decode cX3_fill 23 = .ok (.aload_n 0, 1) := dk_42 (dk_at dksX3_fill_0 23 rfl rfl)
theorem dX3_fill_24 : decode cX3_fill 24 = .ok (.iload_n 2, 1) := dk_28 (dk_at dksX3_fill_1 0 rfl rfl)
theorem dX3_fill_25 : decode cX3_fill 25 = .ok (.invokevirtual 162, 3) := dk_182 0 162 (dk_at dksX3_fill_1 1 rfl rfl)
theorem dX3_fill_28 : decode cX3_fill 28 = .ok (.iconst (-1), 1) := dk_2 (dk_at dksX3_fill_1 4 rfl rfl)
theorem dX3_fill_29 : decode cX3_fill 29 = .ok (.if_icmp .eq 6, 3) := dk_159 0 6 (dk_at dksX3_fill_1 5 rfl rfl)
theorem dX3_fill_32 : decode cX3_fill 32 = .ok (.goto 27, 3) := dk_167 0 27 (dk_at dksX3_fill_1 8 rfl rfl)
theorem dX3_fill_35 : decode cX3_fill 35 = .ok (.aload_n 0, 1) := dk_42 (dk_at dksX3_fill_1 11 rfl rfl)
theorem dX3_fill_36 : decode cX3_fill 36 = .ok (.iload_n 2, 1) := dk_28 (dk_at dksX3_fill_1 12 rfl rfl)
theorem dX3_fill_37 : decode cX3_fill 37 = .ok (.invokevirtual 212, 3) := dk_182 0 212 (dk_at dksX3_fill_1 13 rfl rfl)
theorem dX3_fill_40 : decode cX3_fill 40 = .ok (.istore_n 3, 1) := dk_62 (dk_at dksX3_fill_1 16 rfl rfl)
theorem dX3_fill_41 : decode cX3_fill 41 = .ok (.iload_n 3, 1) := dk_29 (dk_at dksX3_fill_1 17 rfl rfl)
theorem dX3_fill_42 : decode cX3_fill 42 = .ok (.bipush (-2), 2) := dk_16 254 (dk_at dksX3_fill_1 18 rfl rfl)
theorem dX3_fill_44 : decode cX3_fill 44 = .ok (.if_icmp .ne 6, 3) := dk_160 0 6 (dk_at dksX3_fill_1 20 rfl rfl)
theorem dX3_fill_47 : decode cX3_fill 47 = .ok (.goto 12, 3) := dk_167 0 12 (dk_at dksX3_fill_2 0 rfl rfl)
theorem dX3_fill_50 : decode cX3_fill 50 = .ok (.aload_n 0, 1) := dk_42 (dk_at dksX3_fill_2 3 rfl rfl)
theorem dX3_fill_51 : decode cX3_fill 51 = .ok (.iload_n 2, 1) := dk_28 (dk_at dksX3_fill_2 4 rfl rfl)
theorem dX3_fill_52 : decode cX3_fill 52 = .ok (.iload_n 3, 1) := dk_29 (dk_at dksX3_fill_2 5 rfl rfl)
theorem dX3_fill_53 : decode cX3_fill 53 = .ok (.invokevirtual 183, 3) := dk_182 0 183 (dk_at dksX3_fill_2 6 rfl rfl)
theorem dX3_fill_56 : decode cX3_fill 56 = .ok (.iinc 1 1, 3) := dk_132 1 1 (dk_at dksX3_fill_2 9 rfl rfl)
theorem dX3_fill_59 : decode cX3_fill 59 = .ok (.iinc 2 1, 3) := dk_132 2 1 (dk_at dksX3_fill_2 12 rfl rfl)
theorem dX3_fill_62 : decode cX3_fill 62 = .ok (.goto (-49), 3) := dk_167 255 207 (dk_at dksX3_fill_2 15 rfl rfl)
theorem dX3_fill_65 : decode cX3_fill 65 = .ok (.iload_n 1, 1) := dk_27 (dk_at dksX3_fill_2 18 rfl rfl)
theorem dX3_fill_66 : decode cX3_fill 66 = .ok (.ireturn, 1) := dk_172 (dk_at dksX3_fill_2 19 rfl rfl)
abbrev cX3_settle : ByteArray := prog_9_method_66_code
def yX3_settle : MethodName := ⟨RX3, "settle", "()I"⟩
def dkwX3_settle_2 : List UInt8 := [132, 2, 1, 42, 182, 0, 215, 60, 167, 255, 224, 28, 172]
abbrev dktX3_settle_2 : List UInt8 := dkwX3_settle_2 ++ []
def dkwX3_settle_1 : List UInt8 := [27, 16, 254, 159, 0, 32, 28, 16, 40, 162, 0, 26, 42, 27, 16, 100, 108, 27, 16, 100, 112, 182, 0, 183]
abbrev dktX3_settle_1 : List UInt8 := dkwX3_settle_1 ++ dktX3_settle_2
def dkwX3_settle_0 : List UInt8 := [42, 3, 181, 0, 1, 42, 182, 0, 215, 60, 27, 16, 254, 160, 0, 5, 2, 172, 42, 182, 0, 233, 3, 61]
abbrev dktX3_settle_0 : List UInt8 := dkwX3_settle_0 ++ dktX3_settle_1
theorem dksX3_settle_0 : cX3_settle.data.toList.drop 0 = dktX3_settle_0 := by decide +kernel
theorem dksX3_settle_1 : cX3_settle.data.toList.drop 24 = dktX3_settle_1 := dk_seg dksX3_settle_0 24 rfl rfl
theorem dksX3_settle_2 : cX3_settle.data.toList.drop 48 = dktX3_settle_2 := dk_seg dksX3_settle_1 24 rfl rfl
theorem dX3_settle_0 : decode cX3_settle 0 = .ok (.aload_n 0, 1) := dk_42 (dk_at dksX3_settle_0 0 rfl rfl)
theorem dX3_settle_1 : decode cX3_settle 1 = .ok (.iconst 0, 1) := dk_3 (dk_at dksX3_settle_0 1 rfl rfl)
theorem dX3_settle_2 : decode cX3_settle 2 = .ok (.putfield 1, 3) := dk_181 0 1 (dk_at dksX3_settle_0 2 rfl rfl)
theorem dX3_settle_5 : decode cX3_settle 5 = .ok (.aload_n 0, 1) := dk_42 (dk_at dksX3_settle_0 5 rfl rfl)
theorem dX3_settle_6 : decode cX3_settle 6 = .ok (.invokevirtual 215, 3) := dk_182 0 215 (dk_at dksX3_settle_0 6 rfl rfl)
theorem dX3_settle_9 : decode cX3_settle 9 = .ok (.istore_n 1, 1) := dk_60 (dk_at dksX3_settle_0 9 rfl rfl)
theorem dX3_settle_10 : decode cX3_settle 10 = .ok (.iload_n 1, 1) := dk_27 (dk_at dksX3_settle_0 10 rfl rfl)
theorem dX3_settle_11 : decode cX3_settle 11 = .ok (.bipush (-2), 2) := dk_16 254 (dk_at dksX3_settle_0 11 rfl rfl)
theorem dX3_settle_13 : decode cX3_settle 13 = .ok (.if_icmp .ne 5, 3) := dk_160 0 5 (dk_at dksX3_settle_0 13 rfl rfl)
theorem dX3_settle_16 : decode cX3_settle 16 = .ok (.iconst (-1), 1) := dk_2 (dk_at dksX3_settle_0 16 rfl rfl)
theorem dX3_settle_17 : decode cX3_settle 17 = .ok (.ireturn, 1) := dk_172 (dk_at dksX3_settle_0 17 rfl rfl)
theorem dX3_settle_18 : decode cX3_settle 18 = .ok (.aload_n 0, 1) := dk_42 (dk_at dksX3_settle_0 18 rfl rfl)
theorem dX3_settle_19 : decode cX3_settle 19 = .ok (.invokevirtual 233, 3) := dk_182 0 233 (dk_at dksX3_settle_0 19 rfl rfl)
theorem dX3_settle_22 : decode cX3_settle 22 = .ok (.iconst 0, 1) := dk_3 (dk_at dksX3_settle_0 22 rfl rfl)
theorem dX3_settle_23 : decode cX3_settle 23 = .ok (.istore_n 2, 1) := dk_61 (dk_at dksX3_settle_0 23 rfl rfl)
theorem dX3_settle_24 : decode cX3_settle 24 = .ok (.iload_n 1, 1) := dk_27 (dk_at dksX3_settle_1 0 rfl rfl)
theorem dX3_settle_25 : decode cX3_settle 25 = .ok (.bipush (-2), 2) := dk_16 254 (dk_at dksX3_settle_1 1 rfl rfl)
theorem dX3_settle_27 : decode cX3_settle 27 = .ok (.if_icmp .eq 32, 3) := dk_159 0 32 (dk_at dksX3_settle_1 3 rfl rfl)
theorem dX3_settle_30 : decode cX3_settle 30 = .ok (.iload_n 2, 1) := dk_28 (dk_at dksX3_settle_1 6 rfl rfl)
theorem dX3_settle_31 : decode cX3_settle 31 = .ok (.bipush 40, 2) := dk_16 40 (dk_at dksX3_settle_1 7 rfl rfl)
theorem dX3_settle_33 : decode cX3_settle 33 = .ok (.if_icmp .ge 26, 3) := dk_162 0 26 (dk_at dksX3_settle_1 9 rfl rfl)
theorem dX3_settle_36 : decode cX3_settle 36 = .ok (.aload_n 0, 1) := dk_42 (dk_at dksX3_settle_1 12 rfl rfl)
theorem dX3_settle_37 : decode cX3_settle 37 = .ok (.iload_n 1, 1) := dk_27 (dk_at dksX3_settle_1 13 rfl rfl)
theorem dX3_settle_38 : decode cX3_settle 38 = .ok (.bipush 100, 2) := dk_16 100 (dk_at dksX3_settle_1 14 rfl rfl)
theorem dX3_settle_40 : decode cX3_settle 40 = .ok (.idiv, 1) := dk_108 (dk_at dksX3_settle_1 16 rfl rfl)
theorem dX3_settle_41 : decode cX3_settle 41 = .ok (.iload_n 1, 1) := dk_27 (dk_at dksX3_settle_1 17 rfl rfl)
theorem dX3_settle_42 : decode cX3_settle 42 = .ok (.bipush 100, 2) := dk_16 100 (dk_at dksX3_settle_1 18 rfl rfl)
theorem dX3_settle_44 : decode cX3_settle 44 = .ok (.irem, 1) := dk_112 (dk_at dksX3_settle_1 20 rfl rfl)
theorem dX3_settle_45 : decode cX3_settle 45 = .ok (.invokevirtual 183, 3) := dk_182 0 183 (dk_at dksX3_settle_1 21 rfl rfl)
theorem dX3_settle_48 : decode cX3_settle 48 = .ok (.iinc 2 1, 3) := dk_132 2 1 (dk_at dksX3_settle_2 0 rfl rfl)
theorem dX3_settle_51 : decode cX3_settle 51 = .ok (.aload_n 0, 1) := dk_42 (dk_at dksX3_settle_2 3 rfl rfl)
theorem dX3_settle_52 : decode cX3_settle 52 = .ok (.invokevirtual 215, 3) := dk_182 0 215 (dk_at dksX3_settle_2 4 rfl rfl)
theorem dX3_settle_55 : decode cX3_settle 55 = .ok (.istore_n 1, 1) := dk_60 (dk_at dksX3_settle_2 7 rfl rfl)
theorem dX3_settle_56 : decode cX3_settle 56 = .ok (.goto (-32), 3) := dk_167 255 224 (dk_at dksX3_settle_2 8 rfl rfl)
theorem dX3_settle_59 : decode cX3_settle 59 = .ok (.iload_n 2, 1) := dk_28 (dk_at dksX3_settle_2 11 rfl rfl)
theorem dX3_settle_60 : decode cX3_settle 60 = .ok (.ireturn, 1) := dk_172 (dk_at dksX3_settle_2 12 rfl rfl)
abbrev cX3_undo : ByteArray := prog_9_method_67_code
def yX3_undo : MethodName := ⟨RX3, "undo", "()I"⟩
def dkwX3_undo_2 : List UInt8 := [180, 0, 152, 104, 27, 96, 46, 79, 132, 1, 1, 167, 255, 225, 42, 180, 0, 152, 172]
abbrev dktX3_undo_2 : List UInt8 := dkwX3_undo_2 ++ []
def dkwX3_undo_1 : List UInt8 := [3, 60, 27, 17, 1, 52, 162, 0, 30, 42, 180, 0, 74, 27, 42, 180, 0, 80, 17, 1, 52, 42]
abbrev dktX3_undo_1 : List UInt8 := dkwX3_undo_1 ++ dktX3_undo_2
def dkwX3_undo_0 : List UInt8 := [42, 3, 181, 0, 1, 42, 180, 0, 152, 154, 0, 5, 2, 172, 42, 89, 180, 0, 152, 4, 100, 181, 0, 152]
abbrev dktX3_undo_0 : List UInt8 := dkwX3_undo_0 ++ dktX3_undo_1
theorem dksX3_undo_0 : cX3_undo.data.toList.drop 0 = dktX3_undo_0 := by decide +kernel
theorem dksX3_undo_1 : cX3_undo.data.toList.drop 24 = dktX3_undo_1 := dk_seg dksX3_undo_0 24 rfl rfl
theorem dksX3_undo_2 : cX3_undo.data.toList.drop 46 = dktX3_undo_2 := dk_seg dksX3_undo_1 22 rfl rfl
theorem dX3_undo_0 : decode cX3_undo 0 = .ok (.aload_n 0, 1) := dk_42 (dk_at dksX3_undo_0 0 rfl rfl)
theorem dX3_undo_1 : decode cX3_undo 1 = .ok (.iconst 0, 1) := dk_3 (dk_at dksX3_undo_0 1 rfl rfl)
theorem dX3_undo_2 : decode cX3_undo 2 = .ok (.putfield 1, 3) := dk_181 0 1 (dk_at dksX3_undo_0 2 rfl rfl)
theorem dX3_undo_5 : decode cX3_undo 5 = .ok (.aload_n 0, 1) := dk_42 (dk_at dksX3_undo_0 5 rfl rfl)
theorem dX3_undo_6 : decode cX3_undo 6 = .ok (.getfield 152, 3) := dk_180 0 152 (dk_at dksX3_undo_0 6 rfl rfl)
theorem dX3_undo_9 : decode cX3_undo 9 = .ok (.ifCond .ne 5, 3) := dk_154 0 5 (dk_at dksX3_undo_0 9 rfl rfl)
theorem dX3_undo_12 : decode cX3_undo 12 = .ok (.iconst (-1), 1) := dk_2 (dk_at dksX3_undo_0 12 rfl rfl)
theorem dX3_undo_13 : decode cX3_undo 13 = .ok (.ireturn, 1) := dk_172 (dk_at dksX3_undo_0 13 rfl rfl)
theorem dX3_undo_14 : decode cX3_undo 14 = .ok (.aload_n 0, 1) := dk_42 (dk_at dksX3_undo_0 14 rfl rfl)
theorem dX3_undo_15 : decode cX3_undo 15 = .ok (.dup, 1) := dk_89 (dk_at dksX3_undo_0 15 rfl rfl)
theorem dX3_undo_16 : decode cX3_undo 16 = .ok (.getfield 152, 3) := dk_180 0 152 (dk_at dksX3_undo_0 16 rfl rfl)
theorem dX3_undo_19 : decode cX3_undo 19 = .ok (.iconst 1, 1) := dk_4 (dk_at dksX3_undo_0 19 rfl rfl)
theorem dX3_undo_20 : decode cX3_undo 20 = .ok (.isub, 1) := dk_100 (dk_at dksX3_undo_0 20 rfl rfl)
theorem dX3_undo_21 : decode cX3_undo 21 = .ok (.putfield 152, 3) := dk_181 0 152 (dk_at dksX3_undo_0 21 rfl rfl)
theorem dX3_undo_24 : decode cX3_undo 24 = .ok (.iconst 0, 1) := dk_3 (dk_at dksX3_undo_1 0 rfl rfl)
theorem dX3_undo_25 : decode cX3_undo 25 = .ok (.istore_n 1, 1) := dk_60 (dk_at dksX3_undo_1 1 rfl rfl)
theorem dX3_undo_26 : decode cX3_undo 26 = .ok (.iload_n 1, 1) := dk_27 (dk_at dksX3_undo_1 2 rfl rfl)
theorem dX3_undo_27 : decode cX3_undo 27 = .ok (.sipush 308, 3) := dk_17 1 52 (dk_at dksX3_undo_1 3 rfl rfl)
theorem dX3_undo_30 : decode cX3_undo 30 = .ok (.if_icmp .ge 30, 3) := dk_162 0 30 (dk_at dksX3_undo_1 6 rfl rfl)
theorem dX3_undo_33 : decode cX3_undo 33 = .ok (.aload_n 0, 1) := dk_42 (dk_at dksX3_undo_1 9 rfl rfl)
theorem dX3_undo_34 : decode cX3_undo 34 = .ok (.getfield 74, 3) := dk_180 0 74 (dk_at dksX3_undo_1 10 rfl rfl)
theorem dX3_undo_37 : decode cX3_undo 37 = .ok (.iload_n 1, 1) := dk_27 (dk_at dksX3_undo_1 13 rfl rfl)
theorem dX3_undo_38 : decode cX3_undo 38 = .ok (.aload_n 0, 1) := dk_42 (dk_at dksX3_undo_1 14 rfl rfl)
theorem dX3_undo_39 : decode cX3_undo 39 = .ok (.getfield 80, 3) := dk_180 0 80 (dk_at dksX3_undo_1 15 rfl rfl)
theorem dX3_undo_42 : decode cX3_undo 42 = .ok (.sipush 308, 3) := dk_17 1 52 (dk_at dksX3_undo_1 18 rfl rfl)
theorem dX3_undo_45 : decode cX3_undo 45 = .ok (.aload_n 0, 1) := dk_42 (dk_at dksX3_undo_1 21 rfl rfl)
theorem dX3_undo_46 : decode cX3_undo 46 = .ok (.getfield 152, 3) := dk_180 0 152 (dk_at dksX3_undo_2 0 rfl rfl)
theorem dX3_undo_49 : decode cX3_undo 49 = .ok (.imul, 1) := dk_104 (dk_at dksX3_undo_2 3 rfl rfl)
theorem dX3_undo_50 : decode cX3_undo 50 = .ok (.iload_n 1, 1) := dk_27 (dk_at dksX3_undo_2 4 rfl rfl)
theorem dX3_undo_51 : decode cX3_undo 51 = .ok (.iadd, 1) := dk_96 (dk_at dksX3_undo_2 5 rfl rfl)
theorem dX3_undo_52 : decode cX3_undo 52 = .ok (.iaload, 1) := dk_46 (dk_at dksX3_undo_2 6 rfl rfl)
theorem dX3_undo_53 : decode cX3_undo 53 = .ok (.iastore, 1) := dk_79 (dk_at dksX3_undo_2 7 rfl rfl)
theorem dX3_undo_54 : decode cX3_undo 54 = .ok (.iinc 1 1, 3) := dk_132 1 1 (dk_at dksX3_undo_2 8 rfl rfl)
theorem dX3_undo_57 : decode cX3_undo 57 = .ok (.goto (-31), 3) := dk_167 255 225 (dk_at dksX3_undo_2 11 rfl rfl)
theorem dX3_undo_60 : decode cX3_undo 60 = .ok (.aload_n 0, 1) := dk_42 (dk_at dksX3_undo_2 14 rfl rfl)
theorem dX3_undo_61 : decode cX3_undo 61 = .ok (.getfield 152, 3) := dk_180 0 152 (dk_at dksX3_undo_2 15 rfl rfl)
theorem dX3_undo_64 : decode cX3_undo 64 = .ok (.ireturn, 1) := dk_172 (dk_at dksX3_undo_2 18 rfl rfl)
theorem q74 : (Jvm.Cond.initialized "BreakSetterModel") ∈ lw_all := lw_g (lw_at lw_m1 4 rfl) rfl
theorem q891 : (Jvm.Cond.selects "BreakSetterModel" ({ cls := "java/lang/Object", name := "getClass", desc := "()Ljava/lang/Class;" } : Jvm.MethodName) ({ cls := "java/lang/Object", name := "getClass", desc := "()Ljava/lang/Class;" } : Jvm.MethodName)) ∈ lw_all := lw_g (lw_at lw_m4 101 rfl) rfl
theorem q1277 : (Jvm.Cond.instanceMethod ({ cls := "BreakSetterModel", name := "thrown", desc := "()I" } : Jvm.MethodName)) ∈ lw_all := lw_g (lw_at lw_m6 7 rfl) rfl
theorem q1278 : (Jvm.Cond.selects "BreakSetterModel" ({ cls := "BreakSetterModel", name := "thrown", desc := "()I" } : Jvm.MethodName) ({ cls := "BreakSetterModel", name := "thrown", desc := "()I" } : Jvm.MethodName)) ∈ lw_all := lw_g (lw_at lw_m6 8 rfl) rfl
theorem q1279 : (Jvm.Cond.code ({ cls := "BreakSetterModel", name := "thrown", desc := "()I" } : Jvm.MethodName) prog_9_method_1_code (1 : Nat) (Option.some Jvm.ClassFile.FieldType.int)) ∈ lw_all := lw_g (lw_at lw_m6 9 rfl) rfl
theorem q1281 : (Jvm.Cond.instanceMethod ({ cls := "BreakSetterModel", name := "feed", desc := "(IIIII)I" } : Jvm.MethodName)) ∈ lw_all := lw_g (lw_at lw_m6 11 rfl) rfl
theorem q1282 : (Jvm.Cond.selects "BreakSetterModel" ({ cls := "BreakSetterModel", name := "feed", desc := "(IIIII)I" } : Jvm.MethodName) ({ cls := "BreakSetterModel", name := "feed", desc := "(IIIII)I" } : Jvm.MethodName)) ∈ lw_all := lw_g (lw_at lw_m6 12 rfl) rfl
theorem q1283 : (Jvm.Cond.code ({ cls := "BreakSetterModel", name := "feed", desc := "(IIIII)I" } : Jvm.MethodName) prog_9_method_5_code (6 : Nat) (Option.some Jvm.ClassFile.FieldType.int)) ∈ lw_all := lw_g (lw_at lw_m6 13 rfl) rfl
theorem q1284 : (Jvm.Cond.methodLink "BreakSetterModel" (14 : Nat) ({ cls := "BreakSetterModel", name := "lays", desc := "(I)V" } : Jvm.MethodName)) ∈ lw_all := lw_g (lw_at lw_m6 14 rfl) rfl
theorem q1285 : (Jvm.Cond.privateMethod ({ cls := "BreakSetterModel", name := "lays", desc := "(I)V" } : Jvm.MethodName)) ∈ lw_tbl := lw_at lw_m6 15 rfl
theorem q1286 : (Jvm.Cond.instanceMethod ({ cls := "BreakSetterModel", name := "lays", desc := "(I)V" } : Jvm.MethodName)) ∈ lw_all := lw_g (lw_at lw_m6 16 rfl) rfl
theorem q1287 : (Jvm.Cond.instantiable "BreakSetterModel" (23 : Nat)) ∈ lw_all := lw_g (lw_at lw_m6 17 rfl) rfl
theorem q1288 : (Jvm.Cond.code ({ cls := "BreakSetterModel", name := "lays", desc := "(I)V" } : Jvm.MethodName) prog_9_method_4_code (3 : Nat) (Option.none : Option Jvm.ClassFile.FieldType)) ∈ lw_all := lw_g (lw_at lw_m6 18 rfl) rfl
theorem q1290 : (Jvm.Cond.instanceMethod ({ cls := "BreakSetterModel", name := "end", desc := "(I)Z" } : Jvm.MethodName)) ∈ lw_all := lw_g (lw_at lw_m6 20 rfl) rfl
theorem q1291 : (Jvm.Cond.selects "BreakSetterModel" ({ cls := "BreakSetterModel", name := "end", desc := "(I)Z" } : Jvm.MethodName) ({ cls := "BreakSetterModel", name := "end", desc := "(I)Z" } : Jvm.MethodName)) ∈ lw_all := lw_g (lw_at lw_m6 21 rfl) rfl
theorem q1292 : (Jvm.Cond.code ({ cls := "BreakSetterModel", name := "end", desc := "(I)Z" } : Jvm.MethodName) prog_9_method_6_code (2 : Nat) (Option.some Jvm.ClassFile.FieldType.boolean)) ∈ lw_all := lw_g (lw_at lw_m6 22 rfl) rfl
theorem q1295 : (Jvm.Cond.instanceMethod ({ cls := "BreakSetterModel", name := "<init>", desc := "()V" } : Jvm.MethodName)) ∈ lw_all := lw_g (lw_at lw_m6 25 rfl) rfl
theorem q1296 : (Jvm.Cond.code ({ cls := "BreakSetterModel", name := "<init>", desc := "()V" } : Jvm.MethodName) prog_9_method_16_code (1 : Nat) (Option.none : Option Jvm.ClassFile.FieldType)) ∈ lw_all := lw_g (lw_at lw_m6 26 rfl) rfl
theorem q1297 : (Jvm.Cond.methodLink "BreakSetterModel" (68 : Nat) ({ cls := "java/lang/Object", name := "<init>", desc := "()V" } : Jvm.MethodName)) ∈ lw_all := lw_g (lw_at lw_m6 27 rfl) rfl
theorem q1298 : (Jvm.Cond.fieldLink "BreakSetterModel" (1 : Nat) "BreakSetterModel" "thrown" "I") ∈ lw_all := lw_g (lw_at lw_m6 28 rfl) rfl
theorem q1299 : (Jvm.Cond.fieldLink "BreakSetterModel" (7 : Nat) "BreakSetterModel" "tape" "[I") ∈ lw_all := lw_g (lw_at lw_m6 29 rfl) rfl
theorem q1300 : (Jvm.Cond.fieldLink "BreakSetterModel" (11 : Nat) "BreakSetterModel" "taped" "I") ∈ lw_all := lw_g (lw_at lw_m6 30 rfl) rfl
theorem q1301 : (Jvm.Cond.fieldLink "BreakSetterModel" (18 : Nat) "BreakSetterModel" "size" "I") ∈ lw_all := lw_g (lw_at lw_m6 31 rfl) rfl
theorem q1302 : (Jvm.Cond.fieldLink "BreakSetterModel" (21 : Nat) "BreakSetterModel" "to" "I") ∈ lw_all := lw_g (lw_at lw_m6 32 rfl) rfl
theorem q1303 : (Jvm.Cond.fieldLink "BreakSetterModel" (24 : Nat) "BreakSetterModel" "from" "I") ∈ lw_all := lw_g (lw_at lw_m6 33 rfl) rfl
theorem q1304 : (Jvm.Cond.fieldLink "BreakSetterModel" (27 : Nat) "BreakSetterModel" "sort" "I") ∈ lw_all := lw_g (lw_at lw_m6 34 rfl) rfl
theorem q1305 : (Jvm.Cond.fieldLink "BreakSetterModel" (41 : Nat) "BreakSetterModel" "number" "I") ∈ lw_all := lw_g (lw_at lw_m6 35 rfl) rfl
theorem q1306 : (Jvm.Cond.fieldLink "BreakSetterModel" (62 : Nat) "BreakSetterModel" "fault" "I") ∈ lw_all := lw_g (lw_at lw_m6 36 rfl) rfl
theorem q1307 : (Jvm.Cond.fieldLink "BreakSetterModel" (65 : Nat) "BreakSetterModel" "where" "I") ∈ lw_all := lw_g (lw_at lw_m6 37 rfl) rfl
theorem q1308 : (Jvm.Cond.fieldLink "BreakSetterModel" (37 : Nat) "BreakSetterModel" "word" "J") ∈ lw_all := lw_g (lw_at lw_m6 38 rfl) rfl
theorem q1309 : (Jvm.Cond.fieldLink "BreakSetterModel" (74 : Nat) "BreakSetterModel" "now" "[I") ∈ lw_all := lw_g (lw_at lw_m6 39 rfl) rfl
theorem q1310 : (Jvm.Cond.fieldLink "BreakSetterModel" (77 : Nat) "BreakSetterModel" "read" "[I") ∈ lw_all := lw_g (lw_at lw_m6 40 rfl) rfl
theorem q1311 : (Jvm.Cond.fieldLink "BreakSetterModel" (80 : Nat) "BreakSetterModel" "snaps" "[I") ∈ lw_all := lw_g (lw_at lw_m6 41 rfl) rfl
theorem q1312 : (Jvm.Cond.fieldLink "BreakSetterModel" (152 : Nat) "BreakSetterModel" "snapMany" "I") ∈ lw_all := lw_g (lw_at lw_m6 42 rfl) rfl
theorem q1313 : (Jvm.Cond.fieldLink "BreakSetterModel" (106 : Nat) "BreakSetterModel" "got" "I") ∈ lw_all := lw_g (lw_at lw_m6 43 rfl) rfl
theorem q1314 : (Jvm.Cond.fieldLink "BreakSetterModel" (131 : Nat) "BreakSetterModel" "needs" "I") ∈ lw_all := lw_g (lw_at lw_m6 44 rfl) rfl
theorem q1315 : (Jvm.Cond.fieldLink "BreakSetterModel" (140 : Nat) "BreakSetterModel" "lines" "I") ∈ lw_all := lw_g (lw_at lw_m6 45 rfl) rfl
theorem q1316 : (Jvm.Cond.fieldLink "BreakSetterModel" (83 : Nat) "BreakSetterModel" "spare" "[I") ∈ lw_all := lw_g (lw_at lw_m6 46 rfl) rfl
theorem q1317 : (Jvm.Cond.fieldLink "BreakSetterModel" (86 : Nat) "BreakSetterModel" "taken" "[I") ∈ lw_all := lw_g (lw_at lw_m6 47 rfl) rfl
theorem q1318 : (Jvm.Cond.fieldLink "BreakSetterModel" (89 : Nat) "BreakSetterModel" "slotOf" "[I") ∈ lw_all := lw_g (lw_at lw_m6 48 rfl) rfl
theorem q1319 : (Jvm.Cond.fieldLink "BreakSetterModel" (92 : Nat) "BreakSetterModel" "seen" "[Z") ∈ lw_all := lw_g (lw_at lw_m6 49 rfl) rfl
theorem q1320 : (Jvm.Cond.fieldLink "BreakSetterModel" (96 : Nat) "BreakSetterModel" "helps" "[I") ∈ lw_all := lw_g (lw_at lw_m6 50 rfl) rfl
theorem q1321 : (Jvm.Cond.lays "BreakSetterModel" "BreakSetterModel" "thrown" "I") ∈ lw_all := lw_g (lw_at lw_m6 51 rfl) rfl
theorem q1322 : (Jvm.Cond.soleField "BreakSetterModel" "thrown") ∈ lw_all := lw_g (lw_at lw_m6 52 rfl) rfl
theorem q1323 : (Jvm.Cond.laysFinal "BreakSetterModel" "BreakSetterModel" "tape" "[I") ∈ lw_all := lw_g (lw_at lw_m6 53 rfl) rfl
theorem q1324 : (Jvm.Cond.soleField "BreakSetterModel" "tape") ∈ lw_all := lw_g (lw_at lw_m6 54 rfl) rfl
theorem q1325 : (Jvm.Cond.lays "BreakSetterModel" "BreakSetterModel" "taped" "I") ∈ lw_all := lw_g (lw_at lw_m6 55 rfl) rfl
theorem q1326 : (Jvm.Cond.soleField "BreakSetterModel" "taped") ∈ lw_all := lw_g (lw_at lw_m6 56 rfl) rfl
theorem q1327 : (Jvm.Cond.lays "BreakSetterModel" "BreakSetterModel" "size" "I") ∈ lw_all := lw_g (lw_at lw_m6 57 rfl) rfl
theorem q1328 : (Jvm.Cond.soleField "BreakSetterModel" "size") ∈ lw_all := lw_g (lw_at lw_m6 58 rfl) rfl
theorem q1329 : (Jvm.Cond.lays "BreakSetterModel" "BreakSetterModel" "to" "I") ∈ lw_all := lw_g (lw_at lw_m6 59 rfl) rfl
theorem q1330 : (Jvm.Cond.soleField "BreakSetterModel" "to") ∈ lw_all := lw_g (lw_at lw_m6 60 rfl) rfl
theorem q1331 : (Jvm.Cond.lays "BreakSetterModel" "BreakSetterModel" "from" "I") ∈ lw_all := lw_g (lw_at lw_m6 61 rfl) rfl
theorem q1332 : (Jvm.Cond.soleField "BreakSetterModel" "from") ∈ lw_all := lw_g (lw_at lw_m6 62 rfl) rfl
theorem q1333 : (Jvm.Cond.lays "BreakSetterModel" "BreakSetterModel" "sort" "I") ∈ lw_all := lw_g (lw_at lw_m6 63 rfl) rfl
theorem q1334 : (Jvm.Cond.soleField "BreakSetterModel" "sort") ∈ lw_all := lw_g (lw_at lw_m6 64 rfl) rfl
theorem q1335 : (Jvm.Cond.lays "BreakSetterModel" "BreakSetterModel" "number" "I") ∈ lw_all := lw_g (lw_at lw_m6 65 rfl) rfl
theorem q1336 : (Jvm.Cond.soleField "BreakSetterModel" "number") ∈ lw_all := lw_g (lw_at lw_m6 66 rfl) rfl
theorem q1337 : (Jvm.Cond.lays "BreakSetterModel" "BreakSetterModel" "fault" "I") ∈ lw_all := lw_g (lw_at lw_m6 67 rfl) rfl
theorem q1338 : (Jvm.Cond.soleField "BreakSetterModel" "fault") ∈ lw_all := lw_g (lw_at lw_m6 68 rfl) rfl
theorem q1339 : (Jvm.Cond.lays "BreakSetterModel" "BreakSetterModel" "where" "I") ∈ lw_all := lw_g (lw_at lw_m6 69 rfl) rfl
theorem q1340 : (Jvm.Cond.soleField "BreakSetterModel" "where") ∈ lw_all := lw_g (lw_at lw_m6 70 rfl) rfl
theorem q1341 : (Jvm.Cond.lays "BreakSetterModel" "BreakSetterModel" "word" "J") ∈ lw_all := lw_g (lw_at lw_m6 71 rfl) rfl
theorem q1342 : (Jvm.Cond.soleField "BreakSetterModel" "word") ∈ lw_all := lw_g (lw_at lw_m6 72 rfl) rfl
theorem q1343 : (Jvm.Cond.laysFinal "BreakSetterModel" "BreakSetterModel" "now" "[I") ∈ lw_all := lw_g (lw_at lw_m6 73 rfl) rfl
theorem q1344 : (Jvm.Cond.soleField "BreakSetterModel" "now") ∈ lw_all := lw_g (lw_at lw_m6 74 rfl) rfl
theorem q1345 : (Jvm.Cond.laysFinal "BreakSetterModel" "BreakSetterModel" "read" "[I") ∈ lw_all := lw_g (lw_at lw_m6 75 rfl) rfl
theorem q1346 : (Jvm.Cond.soleField "BreakSetterModel" "read") ∈ lw_all := lw_g (lw_at lw_m6 76 rfl) rfl
theorem q1347 : (Jvm.Cond.laysFinal "BreakSetterModel" "BreakSetterModel" "snaps" "[I") ∈ lw_all := lw_g (lw_at lw_m6 77 rfl) rfl
theorem q1348 : (Jvm.Cond.soleField "BreakSetterModel" "snaps") ∈ lw_all := lw_g (lw_at lw_m6 78 rfl) rfl
theorem q1349 : (Jvm.Cond.lays "BreakSetterModel" "BreakSetterModel" "snapMany" "I") ∈ lw_all := lw_g (lw_at lw_m6 79 rfl) rfl
theorem q1350 : (Jvm.Cond.soleField "BreakSetterModel" "snapMany") ∈ lw_all := lw_g (lw_at lw_m6 80 rfl) rfl
theorem q1351 : (Jvm.Cond.lays "BreakSetterModel" "BreakSetterModel" "got" "I") ∈ lw_all := lw_g (lw_at lw_m6 81 rfl) rfl
theorem q1352 : (Jvm.Cond.soleField "BreakSetterModel" "got") ∈ lw_all := lw_g (lw_at lw_m6 82 rfl) rfl
theorem q1353 : (Jvm.Cond.lays "BreakSetterModel" "BreakSetterModel" "needs" "I") ∈ lw_all := lw_g (lw_at lw_m6 83 rfl) rfl
theorem q1354 : (Jvm.Cond.soleField "BreakSetterModel" "needs") ∈ lw_all := lw_g (lw_at lw_m6 84 rfl) rfl
theorem q1355 : (Jvm.Cond.lays "BreakSetterModel" "BreakSetterModel" "lines" "I") ∈ lw_all := lw_g (lw_at lw_m6 85 rfl) rfl
theorem q1356 : (Jvm.Cond.soleField "BreakSetterModel" "lines") ∈ lw_all := lw_g (lw_at lw_m6 86 rfl) rfl
theorem q1357 : (Jvm.Cond.laysFinal "BreakSetterModel" "BreakSetterModel" "spare" "[I") ∈ lw_all := lw_g (lw_at lw_m6 87 rfl) rfl
theorem q1358 : (Jvm.Cond.soleField "BreakSetterModel" "spare") ∈ lw_all := lw_g (lw_at lw_m6 88 rfl) rfl
theorem q1359 : (Jvm.Cond.laysFinal "BreakSetterModel" "BreakSetterModel" "taken" "[I") ∈ lw_all := lw_g (lw_at lw_m6 89 rfl) rfl
theorem q1360 : (Jvm.Cond.soleField "BreakSetterModel" "taken") ∈ lw_all := lw_g (lw_at lw_m6 90 rfl) rfl
theorem q1361 : (Jvm.Cond.laysFinal "BreakSetterModel" "BreakSetterModel" "slotOf" "[I") ∈ lw_all := lw_g (lw_at lw_m6 91 rfl) rfl
theorem q1362 : (Jvm.Cond.soleField "BreakSetterModel" "slotOf") ∈ lw_all := lw_g (lw_at lw_m6 92 rfl) rfl
theorem q1363 : (Jvm.Cond.laysFinal "BreakSetterModel" "BreakSetterModel" "seen" "[Z") ∈ lw_all := lw_g (lw_at lw_m6 93 rfl) rfl
theorem q1364 : (Jvm.Cond.soleField "BreakSetterModel" "seen") ∈ lw_all := lw_g (lw_at lw_m6 94 rfl) rfl
theorem q1365 : (Jvm.Cond.laysFinal "BreakSetterModel" "BreakSetterModel" "helps" "[I") ∈ lw_all := lw_g (lw_at lw_m6 95 rfl) rfl
theorem q1366 : (Jvm.Cond.soleField "BreakSetterModel" "helps") ∈ lw_all := lw_g (lw_at lw_m6 96 rfl) rfl
theorem q1367 : (Jvm.Cond.superclass "BreakSetterModel" "java/lang/Object") ∈ lw_all := lw_g (lw_at lw_m6 97 rfl) rfl
theorem q1369 : (Jvm.Cond.instanceMethod ({ cls := "BreakSetterModel", name := "text", desc := "()I" } : Jvm.MethodName)) ∈ lw_all := lw_g (lw_at lw_m6 99 rfl) rfl
theorem q1370 : (Jvm.Cond.selects "BreakSetterModel" ({ cls := "BreakSetterModel", name := "text", desc := "()I" } : Jvm.MethodName) ({ cls := "BreakSetterModel", name := "text", desc := "()I" } : Jvm.MethodName)) ∈ lw_all := lw_g (lw_at lw_m6 100 rfl) rfl
theorem q1371 : (Jvm.Cond.code ({ cls := "BreakSetterModel", name := "text", desc := "()I" } : Jvm.MethodName) prog_9_method_25_code (2 : Nat) (Option.some Jvm.ClassFile.FieldType.int)) ∈ lw_all := lw_g (lw_at lw_m6 101 rfl) rfl
theorem q1372 : (Jvm.Cond.methodLink "BreakSetterModel" (109 : Nat) ({ cls := "BreakSetterModel", name := "go", desc := "()V" } : Jvm.MethodName)) ∈ lw_all := lw_g (lw_at lw_m6 102 rfl) rfl
theorem q1373 : (Jvm.Cond.privateMethod ({ cls := "BreakSetterModel", name := "go", desc := "()V" } : Jvm.MethodName)) ∈ lw_tbl := lw_at lw_m6 103 rfl
theorem q1374 : (Jvm.Cond.instanceMethod ({ cls := "BreakSetterModel", name := "go", desc := "()V" } : Jvm.MethodName)) ∈ lw_all := lw_g (lw_at lw_m6 104 rfl) rfl
theorem q1375 : (Jvm.Cond.code ({ cls := "BreakSetterModel", name := "go", desc := "()V" } : Jvm.MethodName) prog_9_method_10_code (5 : Nat) (Option.none : Option Jvm.ClassFile.FieldType)) ∈ lw_all := lw_g (lw_at lw_m6 105 rfl) rfl
theorem q1376 : (Jvm.Cond.methodLink "BreakSetterModel" (30 : Nat) ({ cls := "BreakSetterModel", name := "isLetter", desc := "(I)Z" } : Jvm.MethodName)) ∈ lw_all := lw_g (lw_at lw_m6 106 rfl) rfl
theorem q1377 : (Jvm.Cond.static ({ cls := "BreakSetterModel", name := "isLetter", desc := "(I)Z" } : Jvm.MethodName)) ∈ lw_all := lw_g (lw_at lw_m6 107 rfl) rfl
theorem q1378 : (Jvm.Cond.code ({ cls := "BreakSetterModel", name := "isLetter", desc := "(I)Z" } : Jvm.MethodName) prog_9_method_9_code (1 : Nat) (Option.some Jvm.ClassFile.FieldType.boolean)) ∈ lw_all := lw_g (lw_at lw_m6 108 rfl) rfl
theorem q1379 : (Jvm.Cond.methodLink "BreakSetterModel" (34 : Nat) ({ cls := "BreakSetterModel", name := "isDigit", desc := "(I)Z" } : Jvm.MethodName)) ∈ lw_all := lw_g (lw_at lw_m6 109 rfl) rfl
theorem q1380 : (Jvm.Cond.static ({ cls := "BreakSetterModel", name := "isDigit", desc := "(I)Z" } : Jvm.MethodName)) ∈ lw_all := lw_g (lw_at lw_m6 110 rfl) rfl
theorem q1381 : (Jvm.Cond.code ({ cls := "BreakSetterModel", name := "isDigit", desc := "(I)Z" } : Jvm.MethodName) prog_9_method_8_code (1 : Nat) (Option.some Jvm.ClassFile.FieldType.boolean)) ∈ lw_all := lw_g (lw_at lw_m6 111 rfl) rfl
theorem q1382 : (Jvm.Cond.methodLink "BreakSetterModel" (44 : Nat) ({ cls := "BreakSetterModel", name := "tapeAt", desc := "(I)I" } : Jvm.MethodName)) ∈ lw_all := lw_g (lw_at lw_m6 112 rfl) rfl
theorem q1383 : (Jvm.Cond.privateMethod ({ cls := "BreakSetterModel", name := "tapeAt", desc := "(I)I" } : Jvm.MethodName)) ∈ lw_tbl := lw_at lw_m6 113 rfl
theorem q1384 : (Jvm.Cond.instanceMethod ({ cls := "BreakSetterModel", name := "tapeAt", desc := "(I)I" } : Jvm.MethodName)) ∈ lw_all := lw_g (lw_at lw_m6 114 rfl) rfl
theorem q1385 : (Jvm.Cond.code ({ cls := "BreakSetterModel", name := "tapeAt", desc := "(I)I" } : Jvm.MethodName) prog_9_method_7_code (2 : Nat) (Option.some Jvm.ClassFile.FieldType.int)) ∈ lw_all := lw_g (lw_at lw_m6 115 rfl) rfl
theorem q1386 : (Jvm.Cond.constantLong "BreakSetterModel" (48 : Nat) (27 : Int64)) ∈ lw_all := lw_g (lw_at lw_m6 116 rfl) rfl
theorem q1387 : (Jvm.Cond.constantLong "BreakSetterModel" (50 : Nat) (96 : Int64)) ∈ lw_all := lw_g (lw_at lw_m6 117 rfl) rfl
theorem q1388 : (Jvm.Cond.methodLink "BreakSetterModel" (149 : Nat) ({ cls := "BreakSetterModel", name := "readWhole", desc := "()Z" } : Jvm.MethodName)) ∈ lw_all := lw_g (lw_at lw_m6 118 rfl) rfl
theorem q1389 : (Jvm.Cond.privateMethod ({ cls := "BreakSetterModel", name := "readWhole", desc := "()Z" } : Jvm.MethodName)) ∈ lw_tbl := lw_at lw_m6 119 rfl
theorem q1390 : (Jvm.Cond.instanceMethod ({ cls := "BreakSetterModel", name := "readWhole", desc := "()Z" } : Jvm.MethodName)) ∈ lw_all := lw_g (lw_at lw_m6 120 rfl) rfl
theorem q1391 : (Jvm.Cond.code ({ cls := "BreakSetterModel", name := "readWhole", desc := "()Z" } : Jvm.MethodName) prog_9_method_24_code (1 : Nat) (Option.some Jvm.ClassFile.FieldType.boolean)) ∈ lw_all := lw_g (lw_at lw_m6 121 rfl) rfl
theorem q1392 : (Jvm.Cond.methodLink "BreakSetterModel" (137 : Nat) ({ cls := "BreakSetterModel", name := "readPosts", desc := "()Z" } : Jvm.MethodName)) ∈ lw_all := lw_g (lw_at lw_m6 122 rfl) rfl
theorem q1393 : (Jvm.Cond.privateMethod ({ cls := "BreakSetterModel", name := "readPosts", desc := "()Z" } : Jvm.MethodName)) ∈ lw_tbl := lw_at lw_m6 123 rfl
theorem q1394 : (Jvm.Cond.instanceMethod ({ cls := "BreakSetterModel", name := "readPosts", desc := "()Z" } : Jvm.MethodName)) ∈ lw_all := lw_g (lw_at lw_m6 124 rfl) rfl
theorem q1395 : (Jvm.Cond.code ({ cls := "BreakSetterModel", name := "readPosts", desc := "()Z" } : Jvm.MethodName) prog_9_method_20_code (1 : Nat) (Option.some Jvm.ClassFile.FieldType.boolean)) ∈ lw_all := lw_g (lw_at lw_m6 125 rfl) rfl
theorem q1396 : (Jvm.Cond.methodLink "BreakSetterModel" (116 : Nat) ({ cls := "BreakSetterModel", name := "five", desc := "(IIIII)J" } : Jvm.MethodName)) ∈ lw_all := lw_g (lw_at lw_m6 126 rfl) rfl
theorem q1397 : (Jvm.Cond.static ({ cls := "BreakSetterModel", name := "five", desc := "(IIIII)J" } : Jvm.MethodName)) ∈ lw_all := lw_g (lw_at lw_m6 127 rfl) rfl
theorem q1398 : (Jvm.Cond.code ({ cls := "BreakSetterModel", name := "five", desc := "(IIIII)J" } : Jvm.MethodName) prog_9_method_13_code (5 : Nat) (Option.some Jvm.ClassFile.FieldType.long)) ∈ lw_all := lw_g (lw_at lw_m6 128 rfl) rfl
theorem q1399 : (Jvm.Cond.methodLink "BreakSetterModel" (58 : Nat) ({ cls := "BreakSetterModel", name := "four", desc := "(IIII)J" } : Jvm.MethodName)) ∈ lw_all := lw_g (lw_at lw_m6 129 rfl) rfl
theorem q1400 : (Jvm.Cond.static ({ cls := "BreakSetterModel", name := "four", desc := "(IIII)J" } : Jvm.MethodName)) ∈ lw_all := lw_g (lw_at lw_m6 130 rfl) rfl
theorem q1401 : (Jvm.Cond.code ({ cls := "BreakSetterModel", name := "four", desc := "(IIII)J" } : Jvm.MethodName) prog_9_method_12_code (4 : Nat) (Option.some Jvm.ClassFile.FieldType.long)) ∈ lw_all := lw_g (lw_at lw_m6 131 rfl) rfl
theorem q1402 : (Jvm.Cond.constantLong "BreakSetterModel" (52 : Nat) (729 : Int64)) ∈ lw_all := lw_g (lw_at lw_m6 132 rfl) rfl
theorem q1403 : (Jvm.Cond.methodLink "BreakSetterModel" (54 : Nat) ({ cls := "BreakSetterModel", name := "two", desc := "(II)J" } : Jvm.MethodName)) ∈ lw_all := lw_g (lw_at lw_m6 133 rfl) rfl
theorem q1404 : (Jvm.Cond.static ({ cls := "BreakSetterModel", name := "two", desc := "(II)J" } : Jvm.MethodName)) ∈ lw_all := lw_g (lw_at lw_m6 134 rfl) rfl
theorem q1405 : (Jvm.Cond.code ({ cls := "BreakSetterModel", name := "two", desc := "(II)J" } : Jvm.MethodName) prog_9_method_11_code (2 : Nat) (Option.some Jvm.ClassFile.FieldType.long)) ∈ lw_all := lw_g (lw_at lw_m6 135 rfl) rfl
theorem q1406 : (Jvm.Cond.methodLink "BreakSetterModel" (120 : Nat) ({ cls := "BreakSetterModel", name := "isWord", desc := "(J)Z" } : Jvm.MethodName)) ∈ lw_all := lw_g (lw_at lw_m6 136 rfl) rfl
theorem q1407 : (Jvm.Cond.privateMethod ({ cls := "BreakSetterModel", name := "isWord", desc := "(J)Z" } : Jvm.MethodName)) ∈ lw_tbl := lw_at lw_m6 137 rfl
theorem q1408 : (Jvm.Cond.instanceMethod ({ cls := "BreakSetterModel", name := "isWord", desc := "(J)Z" } : Jvm.MethodName)) ∈ lw_all := lw_g (lw_at lw_m6 138 rfl) rfl
theorem q1409 : (Jvm.Cond.code ({ cls := "BreakSetterModel", name := "isWord", desc := "(J)Z" } : Jvm.MethodName) prog_9_method_14_code (3 : Nat) (Option.some Jvm.ClassFile.FieldType.boolean)) ∈ lw_all := lw_g (lw_at lw_m6 139 rfl) rfl
theorem q1410 : (Jvm.Cond.methodLink "BreakSetterModel" (99 : Nat) ({ cls := "BreakSetterModel", name := "bad", desc := "(I)Z" } : Jvm.MethodName)) ∈ lw_all := lw_g (lw_at lw_m6 140 rfl) rfl
theorem q1411 : (Jvm.Cond.privateMethod ({ cls := "BreakSetterModel", name := "bad", desc := "(I)Z" } : Jvm.MethodName)) ∈ lw_tbl := lw_at lw_m6 141 rfl
theorem q1412 : (Jvm.Cond.instanceMethod ({ cls := "BreakSetterModel", name := "bad", desc := "(I)Z" } : Jvm.MethodName)) ∈ lw_all := lw_g (lw_at lw_m6 142 rfl) rfl
theorem q1413 : (Jvm.Cond.code ({ cls := "BreakSetterModel", name := "bad", desc := "(I)Z" } : Jvm.MethodName) prog_9_method_15_code (2 : Nat) (Option.some Jvm.ClassFile.FieldType.boolean)) ∈ lw_all := lw_g (lw_at lw_m6 143 rfl) rfl
theorem q1414 : (Jvm.Cond.methodLink "BreakSetterModel" (124 : Nat) ({ cls := "BreakSetterModel", name := "told", desc := "(III)Z" } : Jvm.MethodName)) ∈ lw_all := lw_g (lw_at lw_m6 144 rfl) rfl
theorem q1415 : (Jvm.Cond.privateMethod ({ cls := "BreakSetterModel", name := "told", desc := "(III)Z" } : Jvm.MethodName)) ∈ lw_tbl := lw_at lw_m6 145 rfl
theorem q1416 : (Jvm.Cond.instanceMethod ({ cls := "BreakSetterModel", name := "told", desc := "(III)Z" } : Jvm.MethodName)) ∈ lw_all := lw_g (lw_at lw_m6 146 rfl) rfl
theorem q1417 : (Jvm.Cond.code ({ cls := "BreakSetterModel", name := "told", desc := "(III)Z" } : Jvm.MethodName) prog_9_method_18_code (4 : Nat) (Option.some Jvm.ClassFile.FieldType.boolean)) ∈ lw_all := lw_g (lw_at lw_m6 147 rfl) rfl
theorem q1418 : (Jvm.Cond.methodLink "BreakSetterModel" (112 : Nat) ({ cls := "BreakSetterModel", name := "takes", desc := "(II)Z" } : Jvm.MethodName)) ∈ lw_all := lw_g (lw_at lw_m6 148 rfl) rfl
theorem q1419 : (Jvm.Cond.privateMethod ({ cls := "BreakSetterModel", name := "takes", desc := "(II)Z" } : Jvm.MethodName)) ∈ lw_tbl := lw_at lw_m6 149 rfl
theorem q1420 : (Jvm.Cond.instanceMethod ({ cls := "BreakSetterModel", name := "takes", desc := "(II)Z" } : Jvm.MethodName)) ∈ lw_all := lw_g (lw_at lw_m6 150 rfl) rfl
theorem q1421 : (Jvm.Cond.code ({ cls := "BreakSetterModel", name := "takes", desc := "(II)Z" } : Jvm.MethodName) prog_9_method_17_code (3 : Nat) (Option.some Jvm.ClassFile.FieldType.boolean)) ∈ lw_all := lw_g (lw_at lw_m6 151 rfl) rfl
theorem q1422 : (Jvm.Cond.methodLink "BreakSetterModel" (102 : Nat) ({ cls := "BreakSetterModel", name := "isIn", desc := "(III)Z" } : Jvm.MethodName)) ∈ lw_all := lw_g (lw_at lw_m6 152 rfl) rfl
theorem q1423 : (Jvm.Cond.static ({ cls := "BreakSetterModel", name := "isIn", desc := "(III)Z" } : Jvm.MethodName)) ∈ lw_all := lw_g (lw_at lw_m6 153 rfl) rfl
theorem q1424 : (Jvm.Cond.code ({ cls := "BreakSetterModel", name := "isIn", desc := "(III)Z" } : Jvm.MethodName) prog_9_method_3_code (3 : Nat) (Option.some Jvm.ClassFile.FieldType.boolean)) ∈ lw_all := lw_g (lw_at lw_m6 154 rfl) rfl
theorem q1425 : (Jvm.Cond.methodLink "BreakSetterModel" (127 : Nat) ({ cls := "BreakSetterModel", name := "readEnd", desc := "()Z" } : Jvm.MethodName)) ∈ lw_all := lw_g (lw_at lw_m6 155 rfl) rfl
theorem q1426 : (Jvm.Cond.privateMethod ({ cls := "BreakSetterModel", name := "readEnd", desc := "()Z" } : Jvm.MethodName)) ∈ lw_tbl := lw_at lw_m6 156 rfl
theorem q1427 : (Jvm.Cond.instanceMethod ({ cls := "BreakSetterModel", name := "readEnd", desc := "()Z" } : Jvm.MethodName)) ∈ lw_all := lw_g (lw_at lw_m6 157 rfl) rfl
theorem q1428 : (Jvm.Cond.code ({ cls := "BreakSetterModel", name := "readEnd", desc := "()Z" } : Jvm.MethodName) prog_9_method_19_code (1 : Nat) (Option.some Jvm.ClassFile.FieldType.boolean)) ∈ lw_all := lw_g (lw_at lw_m6 158 rfl) rfl
theorem q1429 : (Jvm.Cond.methodLink "BreakSetterModel" (143 : Nat) ({ cls := "BreakSetterModel", name := "readNeed", desc := "()Z" } : Jvm.MethodName)) ∈ lw_all := lw_g (lw_at lw_m6 159 rfl) rfl
theorem q1430 : (Jvm.Cond.privateMethod ({ cls := "BreakSetterModel", name := "readNeed", desc := "()Z" } : Jvm.MethodName)) ∈ lw_tbl := lw_at lw_m6 160 rfl
theorem q1431 : (Jvm.Cond.instanceMethod ({ cls := "BreakSetterModel", name := "readNeed", desc := "()Z" } : Jvm.MethodName)) ∈ lw_all := lw_g (lw_at lw_m6 161 rfl) rfl
theorem q1432 : (Jvm.Cond.code ({ cls := "BreakSetterModel", name := "readNeed", desc := "()Z" } : Jvm.MethodName) prog_9_method_21_code (5 : Nat) (Option.some Jvm.ClassFile.FieldType.boolean)) ∈ lw_all := lw_g (lw_at lw_m6 162 rfl) rfl
theorem q1433 : (Jvm.Cond.methodLink "BreakSetterModel" (146 : Nat) ({ cls := "BreakSetterModel", name := "readShift", desc := "()Z" } : Jvm.MethodName)) ∈ lw_all := lw_g (lw_at lw_m6 163 rfl) rfl
theorem q1434 : (Jvm.Cond.privateMethod ({ cls := "BreakSetterModel", name := "readShift", desc := "()Z" } : Jvm.MethodName)) ∈ lw_tbl := lw_at lw_m6 164 rfl
theorem q1435 : (Jvm.Cond.instanceMethod ({ cls := "BreakSetterModel", name := "readShift", desc := "()Z" } : Jvm.MethodName)) ∈ lw_all := lw_g (lw_at lw_m6 165 rfl) rfl
theorem q1436 : (Jvm.Cond.code ({ cls := "BreakSetterModel", name := "readShift", desc := "()Z" } : Jvm.MethodName) prog_9_method_23_code (2 : Nat) (Option.some Jvm.ClassFile.FieldType.boolean)) ∈ lw_all := lw_g (lw_at lw_m6 166 rfl) rfl
theorem q1437 : (Jvm.Cond.methodLink "BreakSetterModel" (134 : Nat) ({ cls := "BreakSetterModel", name := "readPause", desc := "(I)Z" } : Jvm.MethodName)) ∈ lw_all := lw_g (lw_at lw_m6 167 rfl) rfl
theorem q1438 : (Jvm.Cond.privateMethod ({ cls := "BreakSetterModel", name := "readPause", desc := "(I)Z" } : Jvm.MethodName)) ∈ lw_tbl := lw_at lw_m6 168 rfl
theorem q1439 : (Jvm.Cond.instanceMethod ({ cls := "BreakSetterModel", name := "readPause", desc := "(I)Z" } : Jvm.MethodName)) ∈ lw_all := lw_g (lw_at lw_m6 169 rfl) rfl
theorem q1440 : (Jvm.Cond.code ({ cls := "BreakSetterModel", name := "readPause", desc := "(I)Z" } : Jvm.MethodName) prog_9_method_22_code (3 : Nat) (Option.some Jvm.ClassFile.FieldType.boolean)) ∈ lw_all := lw_g (lw_at lw_m6 170 rfl) rfl
theorem q1442 : (Jvm.Cond.instanceMethod ({ cls := "BreakSetterModel", name := "fault", desc := "()I" } : Jvm.MethodName)) ∈ lw_all := lw_g (lw_at lw_m6 172 rfl) rfl
theorem q1443 : (Jvm.Cond.selects "BreakSetterModel" ({ cls := "BreakSetterModel", name := "fault", desc := "()I" } : Jvm.MethodName) ({ cls := "BreakSetterModel", name := "fault", desc := "()I" } : Jvm.MethodName)) ∈ lw_all := lw_g (lw_at lw_m6 173 rfl) rfl
theorem q1444 : (Jvm.Cond.code ({ cls := "BreakSetterModel", name := "fault", desc := "()I" } : Jvm.MethodName) prog_9_method_26_code (1 : Nat) (Option.some Jvm.ClassFile.FieldType.int)) ∈ lw_all := lw_g (lw_at lw_m6 174 rfl) rfl
theorem q1446 : (Jvm.Cond.instanceMethod ({ cls := "BreakSetterModel", name := "now", desc := "(I)I" } : Jvm.MethodName)) ∈ lw_all := lw_g (lw_at lw_m6 176 rfl) rfl
theorem q1447 : (Jvm.Cond.selects "BreakSetterModel" ({ cls := "BreakSetterModel", name := "now", desc := "(I)I" } : Jvm.MethodName) ({ cls := "BreakSetterModel", name := "now", desc := "(I)I" } : Jvm.MethodName)) ∈ lw_all := lw_g (lw_at lw_m6 177 rfl) rfl
theorem q1448 : (Jvm.Cond.code ({ cls := "BreakSetterModel", name := "now", desc := "(I)I" } : Jvm.MethodName) prog_9_method_46_code (2 : Nat) (Option.some Jvm.ClassFile.FieldType.int)) ∈ lw_all := lw_g (lw_at lw_m6 178 rfl) rfl
theorem q1449 : (Jvm.Cond.methodLink "BreakSetterModel" (197 : Nat) ({ cls := "BreakSetterModel", name := "placed", desc := "()I" } : Jvm.MethodName)) ∈ lw_all := lw_g (lw_at lw_m6 179 rfl) rfl
theorem q1450 : (Jvm.Cond.privateMethod ({ cls := "BreakSetterModel", name := "placed", desc := "()I" } : Jvm.MethodName)) ∈ lw_tbl := lw_at lw_m6 180 rfl
theorem q1451 : (Jvm.Cond.instanceMethod ({ cls := "BreakSetterModel", name := "placed", desc := "()I" } : Jvm.MethodName)) ∈ lw_all := lw_g (lw_at lw_m6 181 rfl) rfl
theorem q1452 : (Jvm.Cond.code ({ cls := "BreakSetterModel", name := "placed", desc := "()I" } : Jvm.MethodName) prog_9_method_45_code (3 : Nat) (Option.some Jvm.ClassFile.FieldType.int)) ∈ lw_all := lw_g (lw_at lw_m6 182 rfl) rfl
theorem q1453 : (Jvm.Cond.methodLink "BreakSetterModel" (162 : Nat) ({ cls := "BreakSetterModel", name := "placeOf", desc := "(I)I" } : Jvm.MethodName)) ∈ lw_all := lw_g (lw_at lw_m6 183 rfl) rfl
theorem q1454 : (Jvm.Cond.privateMethod ({ cls := "BreakSetterModel", name := "placeOf", desc := "(I)I" } : Jvm.MethodName)) ∈ lw_tbl := lw_at lw_m6 184 rfl
theorem q1455 : (Jvm.Cond.instanceMethod ({ cls := "BreakSetterModel", name := "placeOf", desc := "(I)I" } : Jvm.MethodName)) ∈ lw_all := lw_g (lw_at lw_m6 185 rfl) rfl
theorem q1456 : (Jvm.Cond.code ({ cls := "BreakSetterModel", name := "placeOf", desc := "(I)I" } : Jvm.MethodName) prog_9_method_32_code (2 : Nat) (Option.some Jvm.ClassFile.FieldType.int)) ∈ lw_all := lw_g (lw_at lw_m6 186 rfl) rfl
theorem q1457 : (Jvm.Cond.methodLink "BreakSetterModel" (155 : Nat) ({ cls := "BreakSetterModel", name := "its", desc := "(II)I" } : Jvm.MethodName)) ∈ lw_all := lw_g (lw_at lw_m6 187 rfl) rfl
theorem q1458 : (Jvm.Cond.privateMethod ({ cls := "BreakSetterModel", name := "its", desc := "(II)I" } : Jvm.MethodName)) ∈ lw_tbl := lw_at lw_m6 188 rfl
theorem q1459 : (Jvm.Cond.instanceMethod ({ cls := "BreakSetterModel", name := "its", desc := "(II)I" } : Jvm.MethodName)) ∈ lw_all := lw_g (lw_at lw_m6 189 rfl) rfl
theorem q1460 : (Jvm.Cond.code ({ cls := "BreakSetterModel", name := "its", desc := "(II)I" } : Jvm.MethodName) prog_9_method_31_code (3 : Nat) (Option.some Jvm.ClassFile.FieldType.int)) ∈ lw_all := lw_g (lw_at lw_m6 190 rfl) rfl
theorem q1461 : (Jvm.Cond.methodLink "BreakSetterModel" (187 : Nat) ({ cls := "BreakSetterModel", name := "shortfall", desc := "()I" } : Jvm.MethodName)) ∈ lw_all := lw_g (lw_at lw_m6 191 rfl) rfl
theorem q1462 : (Jvm.Cond.privateMethod ({ cls := "BreakSetterModel", name := "shortfall", desc := "()I" } : Jvm.MethodName)) ∈ lw_tbl := lw_at lw_m6 192 rfl
theorem q1463 : (Jvm.Cond.instanceMethod ({ cls := "BreakSetterModel", name := "shortfall", desc := "()I" } : Jvm.MethodName)) ∈ lw_all := lw_g (lw_at lw_m6 193 rfl) rfl
theorem q1464 : (Jvm.Cond.code ({ cls := "BreakSetterModel", name := "shortfall", desc := "()I" } : Jvm.MethodName) prog_9_method_40_code (3 : Nat) (Option.some Jvm.ClassFile.FieldType.int)) ∈ lw_all := lw_g (lw_at lw_m6 194 rfl) rfl
theorem q1465 : (Jvm.Cond.methodLink "BreakSetterModel" (180 : Nat) ({ cls := "BreakSetterModel", name := "shortIn", desc := "(I)I" } : Jvm.MethodName)) ∈ lw_all := lw_g (lw_at lw_m6 195 rfl) rfl
theorem q1466 : (Jvm.Cond.privateMethod ({ cls := "BreakSetterModel", name := "shortIn", desc := "(I)I" } : Jvm.MethodName)) ∈ lw_tbl := lw_at lw_m6 196 rfl
theorem q1467 : (Jvm.Cond.instanceMethod ({ cls := "BreakSetterModel", name := "shortIn", desc := "(I)I" } : Jvm.MethodName)) ∈ lw_all := lw_g (lw_at lw_m6 197 rfl) rfl
theorem q1468 : (Jvm.Cond.code ({ cls := "BreakSetterModel", name := "shortIn", desc := "(I)I" } : Jvm.MethodName) prog_9_method_39_code (4 : Nat) (Option.some Jvm.ClassFile.FieldType.int)) ∈ lw_all := lw_g (lw_at lw_m6 198 rfl) rfl
theorem q1469 : (Jvm.Cond.methodLink "BreakSetterModel" (177 : Nat) ({ cls := "BreakSetterModel", name := "shortOf", desc := "(II)I" } : Jvm.MethodName)) ∈ lw_all := lw_g (lw_at lw_m6 199 rfl) rfl
theorem q1470 : (Jvm.Cond.privateMethod ({ cls := "BreakSetterModel", name := "shortOf", desc := "(II)I" } : Jvm.MethodName)) ∈ lw_tbl := lw_at lw_m6 200 rfl
theorem q1471 : (Jvm.Cond.instanceMethod ({ cls := "BreakSetterModel", name := "shortOf", desc := "(II)I" } : Jvm.MethodName)) ∈ lw_all := lw_g (lw_at lw_m6 201 rfl) rfl
theorem q1472 : (Jvm.Cond.code ({ cls := "BreakSetterModel", name := "shortOf", desc := "(II)I" } : Jvm.MethodName) prog_9_method_38_code (4 : Nat) (Option.some Jvm.ClassFile.FieldType.int)) ∈ lw_all := lw_g (lw_at lw_m6 202 rfl) rfl
theorem q1473 : (Jvm.Cond.methodLink "BreakSetterModel" (171 : Nat) ({ cls := "BreakSetterModel", name := "needOf", desc := "(II)I" } : Jvm.MethodName)) ∈ lw_all := lw_g (lw_at lw_m6 203 rfl) rfl
theorem q1474 : (Jvm.Cond.privateMethod ({ cls := "BreakSetterModel", name := "needOf", desc := "(II)I" } : Jvm.MethodName)) ∈ lw_tbl := lw_at lw_m6 204 rfl
theorem q1475 : (Jvm.Cond.instanceMethod ({ cls := "BreakSetterModel", name := "needOf", desc := "(II)I" } : Jvm.MethodName)) ∈ lw_all := lw_g (lw_at lw_m6 205 rfl) rfl
theorem q1476 : (Jvm.Cond.code ({ cls := "BreakSetterModel", name := "needOf", desc := "(II)I" } : Jvm.MethodName) prog_9_method_34_code (3 : Nat) (Option.some Jvm.ClassFile.FieldType.int)) ∈ lw_all := lw_g (lw_at lw_m6 206 rfl) rfl
theorem q1477 : (Jvm.Cond.methodLink "BreakSetterModel" (174 : Nat) ({ cls := "BreakSetterModel", name := "coverOf", desc := "(II)I" } : Jvm.MethodName)) ∈ lw_all := lw_g (lw_at lw_m6 207 rfl) rfl
theorem q1478 : (Jvm.Cond.privateMethod ({ cls := "BreakSetterModel", name := "coverOf", desc := "(II)I" } : Jvm.MethodName)) ∈ lw_tbl := lw_at lw_m6 208 rfl
theorem q1479 : (Jvm.Cond.instanceMethod ({ cls := "BreakSetterModel", name := "coverOf", desc := "(II)I" } : Jvm.MethodName)) ∈ lw_all := lw_g (lw_at lw_m6 209 rfl) rfl
theorem q1480 : (Jvm.Cond.code ({ cls := "BreakSetterModel", name := "coverOf", desc := "(II)I" } : Jvm.MethodName) prog_9_method_37_code (5 : Nat) (Option.some Jvm.ClassFile.FieldType.int)) ∈ lw_all := lw_g (lw_at lw_m6 210 rfl) rfl
theorem q1481 : (Jvm.Cond.methodLink "BreakSetterModel" (165 : Nat) ({ cls := "BreakSetterModel", name := "onDuty", desc := "(II)I" } : Jvm.MethodName)) ∈ lw_all := lw_g (lw_at lw_m6 211 rfl) rfl
theorem q1482 : (Jvm.Cond.privateMethod ({ cls := "BreakSetterModel", name := "onDuty", desc := "(II)I" } : Jvm.MethodName)) ∈ lw_tbl := lw_at lw_m6 212 rfl
theorem q1483 : (Jvm.Cond.instanceMethod ({ cls := "BreakSetterModel", name := "onDuty", desc := "(II)I" } : Jvm.MethodName)) ∈ lw_all := lw_g (lw_at lw_m6 213 rfl) rfl
theorem q1484 : (Jvm.Cond.code ({ cls := "BreakSetterModel", name := "onDuty", desc := "(II)I" } : Jvm.MethodName) prog_9_method_35_code (5 : Nat) (Option.some Jvm.ClassFile.FieldType.int)) ∈ lw_all := lw_g (lw_at lw_m6 214 rfl) rfl
theorem q1485 : (Jvm.Cond.methodLink "BreakSetterModel" (159 : Nat) ({ cls := "BreakSetterModel", name := "duty", desc := "(II)I" } : Jvm.MethodName)) ∈ lw_all := lw_g (lw_at lw_m6 215 rfl) rfl
theorem q1486 : (Jvm.Cond.privateMethod ({ cls := "BreakSetterModel", name := "duty", desc := "(II)I" } : Jvm.MethodName)) ∈ lw_tbl := lw_at lw_m6 216 rfl
theorem q1487 : (Jvm.Cond.instanceMethod ({ cls := "BreakSetterModel", name := "duty", desc := "(II)I" } : Jvm.MethodName)) ∈ lw_all := lw_g (lw_at lw_m6 217 rfl) rfl
theorem q1488 : (Jvm.Cond.code ({ cls := "BreakSetterModel", name := "duty", desc := "(II)I" } : Jvm.MethodName) prog_9_method_30_code (3 : Nat) (Option.some Jvm.ClassFile.FieldType.int)) ∈ lw_all := lw_g (lw_at lw_m6 218 rfl) rfl
theorem q1489 : (Jvm.Cond.methodLink "BreakSetterModel" (168 : Nat) ({ cls := "BreakSetterModel", name := "isPausing", desc := "(II)Z" } : Jvm.MethodName)) ∈ lw_all := lw_g (lw_at lw_m6 219 rfl) rfl
theorem q1490 : (Jvm.Cond.privateMethod ({ cls := "BreakSetterModel", name := "isPausing", desc := "(II)Z" } : Jvm.MethodName)) ∈ lw_tbl := lw_at lw_m6 220 rfl
theorem q1491 : (Jvm.Cond.instanceMethod ({ cls := "BreakSetterModel", name := "isPausing", desc := "(II)Z" } : Jvm.MethodName)) ∈ lw_all := lw_g (lw_at lw_m6 221 rfl) rfl
theorem q1492 : (Jvm.Cond.code ({ cls := "BreakSetterModel", name := "isPausing", desc := "(II)Z" } : Jvm.MethodName) prog_9_method_36_code (3 : Nat) (Option.some Jvm.ClassFile.FieldType.boolean)) ∈ lw_all := lw_g (lw_at lw_m6 222 rfl) rfl
theorem q1494 : (Jvm.Cond.instanceMethod ({ cls := "BreakSetterModel", name := "shift", desc := "(II)I" } : Jvm.MethodName)) ∈ lw_all := lw_g (lw_at lw_m6 224 rfl) rfl
theorem q1495 : (Jvm.Cond.selects "BreakSetterModel" ({ cls := "BreakSetterModel", name := "shift", desc := "(II)I" } : Jvm.MethodName) ({ cls := "BreakSetterModel", name := "shift", desc := "(II)I" } : Jvm.MethodName)) ∈ lw_all := lw_g (lw_at lw_m6 225 rfl) rfl
theorem q1496 : (Jvm.Cond.code ({ cls := "BreakSetterModel", name := "shift", desc := "(II)I" } : Jvm.MethodName) prog_9_method_47_code (3 : Nat) (Option.some Jvm.ClassFile.FieldType.int)) ∈ lw_all := lw_g (lw_at lw_m6 226 rfl) rfl
theorem q1497 : (Jvm.Cond.methodLink "BreakSetterModel" (200 : Nat) ({ cls := "BreakSetterModel", name := "refuse", desc := "()I" } : Jvm.MethodName)) ∈ lw_all := lw_g (lw_at lw_m6 227 rfl) rfl
theorem q1498 : (Jvm.Cond.privateMethod ({ cls := "BreakSetterModel", name := "refuse", desc := "()I" } : Jvm.MethodName)) ∈ lw_tbl := lw_at lw_m6 228 rfl
theorem q1499 : (Jvm.Cond.instanceMethod ({ cls := "BreakSetterModel", name := "refuse", desc := "()I" } : Jvm.MethodName)) ∈ lw_all := lw_g (lw_at lw_m6 229 rfl) rfl
theorem q1500 : (Jvm.Cond.code ({ cls := "BreakSetterModel", name := "refuse", desc := "()I" } : Jvm.MethodName) prog_9_method_2_code (1 : Nat) (Option.some Jvm.ClassFile.FieldType.int)) ∈ lw_all := lw_g (lw_at lw_m6 230 rfl) rfl
theorem q1502 : (Jvm.Cond.instanceMethod ({ cls := "BreakSetterModel", name := "pause", desc := "(II)I" } : Jvm.MethodName)) ∈ lw_all := lw_g (lw_at lw_m6 232 rfl) rfl
theorem q1503 : (Jvm.Cond.selects "BreakSetterModel" ({ cls := "BreakSetterModel", name := "pause", desc := "(II)I" } : Jvm.MethodName) ({ cls := "BreakSetterModel", name := "pause", desc := "(II)I" } : Jvm.MethodName)) ∈ lw_all := lw_g (lw_at lw_m6 233 rfl) rfl
theorem q1504 : (Jvm.Cond.code ({ cls := "BreakSetterModel", name := "pause", desc := "(II)I" } : Jvm.MethodName) prog_9_method_48_code (3 : Nat) (Option.some Jvm.ClassFile.FieldType.int)) ∈ lw_all := lw_g (lw_at lw_m6 234 rfl) rfl
theorem q1505 : (Jvm.Cond.methodLink "BreakSetterModel" (203 : Nat) ({ cls := "BreakSetterModel", name := "isPause", desc := "(I)Z" } : Jvm.MethodName)) ∈ lw_all := lw_g (lw_at lw_m6 235 rfl) rfl
theorem q1506 : (Jvm.Cond.privateMethod ({ cls := "BreakSetterModel", name := "isPause", desc := "(I)Z" } : Jvm.MethodName)) ∈ lw_tbl := lw_at lw_m6 236 rfl
theorem q1507 : (Jvm.Cond.instanceMethod ({ cls := "BreakSetterModel", name := "isPause", desc := "(I)Z" } : Jvm.MethodName)) ∈ lw_all := lw_g (lw_at lw_m6 237 rfl) rfl
theorem q1508 : (Jvm.Cond.code ({ cls := "BreakSetterModel", name := "isPause", desc := "(I)Z" } : Jvm.MethodName) prog_9_method_29_code (2 : Nat) (Option.some Jvm.ClassFile.FieldType.boolean)) ∈ lw_all := lw_g (lw_at lw_m6 238 rfl) rfl
theorem q1510 : (Jvm.Cond.instanceMethod ({ cls := "BreakSetterModel", name := "slot", desc := "(III)I" } : Jvm.MethodName)) ∈ lw_all := lw_g (lw_at lw_m7 0 rfl) rfl
theorem q1511 : (Jvm.Cond.selects "BreakSetterModel" ({ cls := "BreakSetterModel", name := "slot", desc := "(III)I" } : Jvm.MethodName) ({ cls := "BreakSetterModel", name := "slot", desc := "(III)I" } : Jvm.MethodName)) ∈ lw_all := lw_g (lw_at lw_m7 1 rfl) rfl
theorem q1512 : (Jvm.Cond.code ({ cls := "BreakSetterModel", name := "slot", desc := "(III)I" } : Jvm.MethodName) prog_9_method_49_code (4 : Nat) (Option.some Jvm.ClassFile.FieldType.int)) ∈ lw_all := lw_g (lw_at lw_m7 2 rfl) rfl
theorem q1513 : (Jvm.Cond.methodLink "BreakSetterModel" (206 : Nat) ({ cls := "BreakSetterModel", name := "isPost", desc := "(I)Z" } : Jvm.MethodName)) ∈ lw_all := lw_g (lw_at lw_m7 3 rfl) rfl
theorem q1514 : (Jvm.Cond.privateMethod ({ cls := "BreakSetterModel", name := "isPost", desc := "(I)Z" } : Jvm.MethodName)) ∈ lw_tbl := lw_at lw_m7 4 rfl
theorem q1515 : (Jvm.Cond.instanceMethod ({ cls := "BreakSetterModel", name := "isPost", desc := "(I)Z" } : Jvm.MethodName)) ∈ lw_all := lw_g (lw_at lw_m7 5 rfl) rfl
theorem q1516 : (Jvm.Cond.code ({ cls := "BreakSetterModel", name := "isPost", desc := "(I)Z" } : Jvm.MethodName) prog_9_method_27_code (2 : Nat) (Option.some Jvm.ClassFile.FieldType.boolean)) ∈ lw_all := lw_g (lw_at lw_m7 6 rfl) rfl
theorem q1517 : (Jvm.Cond.methodLink "BreakSetterModel" (209 : Nat) ({ cls := "BreakSetterModel", name := "isSlot", desc := "(I)Z" } : Jvm.MethodName)) ∈ lw_all := lw_g (lw_at lw_m7 7 rfl) rfl
theorem q1518 : (Jvm.Cond.static ({ cls := "BreakSetterModel", name := "isSlot", desc := "(I)Z" } : Jvm.MethodName)) ∈ lw_all := lw_g (lw_at lw_m7 8 rfl) rfl
theorem q1519 : (Jvm.Cond.code ({ cls := "BreakSetterModel", name := "isSlot", desc := "(I)Z" } : Jvm.MethodName) prog_9_method_28_code (1 : Nat) (Option.some Jvm.ClassFile.FieldType.boolean)) ∈ lw_all := lw_g (lw_at lw_m7 9 rfl) rfl
theorem q1521 : (Jvm.Cond.instanceMethod ({ cls := "BreakSetterModel", name := "why", desc := "(II)I" } : Jvm.MethodName)) ∈ lw_all := lw_g (lw_at lw_m7 11 rfl) rfl
theorem q1522 : (Jvm.Cond.selects "BreakSetterModel" ({ cls := "BreakSetterModel", name := "why", desc := "(II)I" } : Jvm.MethodName) ({ cls := "BreakSetterModel", name := "why", desc := "(II)I" } : Jvm.MethodName)) ∈ lw_all := lw_g (lw_at lw_m7 12 rfl) rfl
theorem q1523 : (Jvm.Cond.code ({ cls := "BreakSetterModel", name := "why", desc := "(II)I" } : Jvm.MethodName) prog_9_method_50_code (3 : Nat) (Option.some Jvm.ClassFile.FieldType.int)) ∈ lw_all := lw_g (lw_at lw_m7 13 rfl) rfl
theorem q1524 : (Jvm.Cond.methodLink "BreakSetterModel" (191 : Nat) ({ cls := "BreakSetterModel", name := "whyNot", desc := "(II)I" } : Jvm.MethodName)) ∈ lw_all := lw_g (lw_at lw_m7 14 rfl) rfl
theorem q1525 : (Jvm.Cond.privateMethod ({ cls := "BreakSetterModel", name := "whyNot", desc := "(II)I" } : Jvm.MethodName)) ∈ lw_tbl := lw_at lw_m7 15 rfl
theorem q1526 : (Jvm.Cond.instanceMethod ({ cls := "BreakSetterModel", name := "whyNot", desc := "(II)I" } : Jvm.MethodName)) ∈ lw_all := lw_g (lw_at lw_m7 16 rfl) rfl
theorem q1527 : (Jvm.Cond.code ({ cls := "BreakSetterModel", name := "whyNot", desc := "(II)I" } : Jvm.MethodName) prog_9_method_41_code (4 : Nat) (Option.some Jvm.ClassFile.FieldType.int)) ∈ lw_all := lw_g (lw_at lw_m7 17 rfl) rfl
theorem q1529 : (Jvm.Cond.instanceMethod ({ cls := "BreakSetterModel", name := "would", desc := "(II)I" } : Jvm.MethodName)) ∈ lw_all := lw_g (lw_at lw_m7 19 rfl) rfl
theorem q1530 : (Jvm.Cond.selects "BreakSetterModel" ({ cls := "BreakSetterModel", name := "would", desc := "(II)I" } : Jvm.MethodName) ({ cls := "BreakSetterModel", name := "would", desc := "(II)I" } : Jvm.MethodName)) ∈ lw_all := lw_g (lw_at lw_m7 20 rfl) rfl
theorem q1531 : (Jvm.Cond.code ({ cls := "BreakSetterModel", name := "would", desc := "(II)I" } : Jvm.MethodName) prog_9_method_51_code (3 : Nat) (Option.some Jvm.ClassFile.FieldType.int)) ∈ lw_all := lw_g (lw_at lw_m7 21 rfl) rfl
theorem q1532 : (Jvm.Cond.methodLink "BreakSetterModel" (194 : Nat) ({ cls := "BreakSetterModel", name := "scoreAt", desc := "(II)I" } : Jvm.MethodName)) ∈ lw_all := lw_g (lw_at lw_m7 22 rfl) rfl
theorem q1533 : (Jvm.Cond.privateMethod ({ cls := "BreakSetterModel", name := "scoreAt", desc := "(II)I" } : Jvm.MethodName)) ∈ lw_tbl := lw_at lw_m7 23 rfl
theorem q1534 : (Jvm.Cond.instanceMethod ({ cls := "BreakSetterModel", name := "scoreAt", desc := "(II)I" } : Jvm.MethodName)) ∈ lw_all := lw_g (lw_at lw_m7 24 rfl) rfl
theorem q1535 : (Jvm.Cond.code ({ cls := "BreakSetterModel", name := "scoreAt", desc := "(II)I" } : Jvm.MethodName) prog_9_method_42_code (5 : Nat) (Option.some Jvm.ClassFile.FieldType.int)) ∈ lw_all := lw_g (lw_at lw_m7 25 rfl) rfl
theorem q1536 : (Jvm.Cond.methodLink "BreakSetterModel" (183 : Nat) ({ cls := "BreakSetterModel", name := "lies", desc := "(II)V" } : Jvm.MethodName)) ∈ lw_all := lw_g (lw_at lw_m7 26 rfl) rfl
theorem q1537 : (Jvm.Cond.privateMethod ({ cls := "BreakSetterModel", name := "lies", desc := "(II)V" } : Jvm.MethodName)) ∈ lw_tbl := lw_at lw_m7 27 rfl
theorem q1538 : (Jvm.Cond.instanceMethod ({ cls := "BreakSetterModel", name := "lies", desc := "(II)V" } : Jvm.MethodName)) ∈ lw_all := lw_g (lw_at lw_m7 28 rfl) rfl
theorem q1539 : (Jvm.Cond.code ({ cls := "BreakSetterModel", name := "lies", desc := "(II)V" } : Jvm.MethodName) prog_9_method_33_code (3 : Nat) (Option.none : Option Jvm.ClassFile.FieldType)) ∈ lw_all := lw_g (lw_at lw_m7 29 rfl) rfl
theorem q1541 : (Jvm.Cond.instanceMethod ({ cls := "BreakSetterModel", name := "best", desc := "(I)I" } : Jvm.MethodName)) ∈ lw_all := lw_g (lw_at lw_m7 31 rfl) rfl
theorem q1542 : (Jvm.Cond.selects "BreakSetterModel" ({ cls := "BreakSetterModel", name := "best", desc := "(I)I" } : Jvm.MethodName) ({ cls := "BreakSetterModel", name := "best", desc := "(I)I" } : Jvm.MethodName)) ∈ lw_all := lw_g (lw_at lw_m7 32 rfl) rfl
theorem q1543 : (Jvm.Cond.code ({ cls := "BreakSetterModel", name := "best", desc := "(I)I" } : Jvm.MethodName) prog_9_method_52_code (2 : Nat) (Option.some Jvm.ClassFile.FieldType.int)) ∈ lw_all := lw_g (lw_at lw_m7 33 rfl) rfl
theorem q1544 : (Jvm.Cond.methodLink "BreakSetterModel" (212 : Nat) ({ cls := "BreakSetterModel", name := "bestOf", desc := "(I)I" } : Jvm.MethodName)) ∈ lw_all := lw_g (lw_at lw_m7 34 rfl) rfl
theorem q1545 : (Jvm.Cond.privateMethod ({ cls := "BreakSetterModel", name := "bestOf", desc := "(I)I" } : Jvm.MethodName)) ∈ lw_tbl := lw_at lw_m7 35 rfl
theorem q1546 : (Jvm.Cond.instanceMethod ({ cls := "BreakSetterModel", name := "bestOf", desc := "(I)I" } : Jvm.MethodName)) ∈ lw_all := lw_g (lw_at lw_m7 36 rfl) rfl
theorem q1547 : (Jvm.Cond.code ({ cls := "BreakSetterModel", name := "bestOf", desc := "(I)I" } : Jvm.MethodName) prog_9_method_43_code (6 : Nat) (Option.some Jvm.ClassFile.FieldType.int)) ∈ lw_all := lw_g (lw_at lw_m7 37 rfl) rfl
theorem q1549 : (Jvm.Cond.instanceMethod ({ cls := "BreakSetterModel", name := "better", desc := "()I" } : Jvm.MethodName)) ∈ lw_all := lw_g (lw_at lw_m7 39 rfl) rfl
theorem q1550 : (Jvm.Cond.selects "BreakSetterModel" ({ cls := "BreakSetterModel", name := "better", desc := "()I" } : Jvm.MethodName) ({ cls := "BreakSetterModel", name := "better", desc := "()I" } : Jvm.MethodName)) ∈ lw_all := lw_g (lw_at lw_m7 40 rfl) rfl
theorem q1551 : (Jvm.Cond.code ({ cls := "BreakSetterModel", name := "better", desc := "()I" } : Jvm.MethodName) prog_9_method_53_code (1 : Nat) (Option.some Jvm.ClassFile.FieldType.int)) ∈ lw_all := lw_g (lw_at lw_m7 41 rfl) rfl
theorem q1552 : (Jvm.Cond.methodLink "BreakSetterModel" (215 : Nat) ({ cls := "BreakSetterModel", name := "betterNow", desc := "()I" } : Jvm.MethodName)) ∈ lw_all := lw_g (lw_at lw_m7 42 rfl) rfl
theorem q1553 : (Jvm.Cond.privateMethod ({ cls := "BreakSetterModel", name := "betterNow", desc := "()I" } : Jvm.MethodName)) ∈ lw_tbl := lw_at lw_m7 43 rfl
theorem q1554 : (Jvm.Cond.instanceMethod ({ cls := "BreakSetterModel", name := "betterNow", desc := "()I" } : Jvm.MethodName)) ∈ lw_all := lw_g (lw_at lw_m7 44 rfl) rfl
theorem q1555 : (Jvm.Cond.code ({ cls := "BreakSetterModel", name := "betterNow", desc := "()I" } : Jvm.MethodName) prog_9_method_44_code (6 : Nat) (Option.some Jvm.ClassFile.FieldType.int)) ∈ lw_all := lw_g (lw_at lw_m7 45 rfl) rfl
theorem q1557 : (Jvm.Cond.instanceMethod ({ cls := "BreakSetterModel", name := "least", desc := "(I)I" } : Jvm.MethodName)) ∈ lw_all := lw_g (lw_at lw_m7 47 rfl) rfl
theorem q1558 : (Jvm.Cond.selects "BreakSetterModel" ({ cls := "BreakSetterModel", name := "least", desc := "(I)I" } : Jvm.MethodName) ({ cls := "BreakSetterModel", name := "least", desc := "(I)I" } : Jvm.MethodName)) ∈ lw_all := lw_g (lw_at lw_m7 48 rfl) rfl
theorem q1559 : (Jvm.Cond.code ({ cls := "BreakSetterModel", name := "least", desc := "(I)I" } : Jvm.MethodName) prog_9_method_55_code (5 : Nat) (Option.some Jvm.ClassFile.FieldType.int)) ∈ lw_all := lw_g (lw_at lw_m7 49 rfl) rfl
theorem q1560 : (Jvm.Cond.methodLink "BreakSetterModel" (218 : Nat) ({ cls := "BreakSetterModel", name := "getsSlot", desc := "(I)Z" } : Jvm.MethodName)) ∈ lw_all := lw_g (lw_at lw_m7 50 rfl) rfl
theorem q1561 : (Jvm.Cond.privateMethod ({ cls := "BreakSetterModel", name := "getsSlot", desc := "(I)Z" } : Jvm.MethodName)) ∈ lw_tbl := lw_at lw_m7 51 rfl
theorem q1562 : (Jvm.Cond.instanceMethod ({ cls := "BreakSetterModel", name := "getsSlot", desc := "(I)Z" } : Jvm.MethodName)) ∈ lw_all := lw_g (lw_at lw_m7 52 rfl) rfl
theorem q1563 : (Jvm.Cond.code ({ cls := "BreakSetterModel", name := "getsSlot", desc := "(I)Z" } : Jvm.MethodName) prog_9_method_54_code (6 : Nat) (Option.some Jvm.ClassFile.FieldType.boolean)) ∈ lw_all := lw_g (lw_at lw_m7 53 rfl) rfl
theorem q1565 : (Jvm.Cond.instanceMethod ({ cls := "BreakSetterModel", name := "relief", desc := "(II)I" } : Jvm.MethodName)) ∈ lw_all := lw_g (lw_at lw_m7 55 rfl) rfl
theorem q1566 : (Jvm.Cond.selects "BreakSetterModel" ({ cls := "BreakSetterModel", name := "relief", desc := "(II)I" } : Jvm.MethodName) ({ cls := "BreakSetterModel", name := "relief", desc := "(II)I" } : Jvm.MethodName)) ∈ lw_all := lw_g (lw_at lw_m7 56 rfl) rfl
theorem q1567 : (Jvm.Cond.code ({ cls := "BreakSetterModel", name := "relief", desc := "(II)I" } : Jvm.MethodName) prog_9_method_60_code (3 : Nat) (Option.some Jvm.ClassFile.FieldType.int)) ∈ lw_all := lw_g (lw_at lw_m7 57 rfl) rfl
theorem q1568 : (Jvm.Cond.methodLink "BreakSetterModel" (227 : Nat) ({ cls := "BreakSetterModel", name := "laysHelps", desc := "()V" } : Jvm.MethodName)) ∈ lw_all := lw_g (lw_at lw_m7 58 rfl) rfl
theorem q1569 : (Jvm.Cond.privateMethod ({ cls := "BreakSetterModel", name := "laysHelps", desc := "()V" } : Jvm.MethodName)) ∈ lw_tbl := lw_at lw_m7 59 rfl
theorem q1570 : (Jvm.Cond.instanceMethod ({ cls := "BreakSetterModel", name := "laysHelps", desc := "()V" } : Jvm.MethodName)) ∈ lw_all := lw_g (lw_at lw_m7 60 rfl) rfl
theorem q1571 : (Jvm.Cond.code ({ cls := "BreakSetterModel", name := "laysHelps", desc := "()V" } : Jvm.MethodName) prog_9_method_58_code (5 : Nat) (Option.none : Option Jvm.ClassFile.FieldType)) ∈ lw_all := lw_g (lw_at lw_m7 61 rfl) rfl
theorem q1572 : (Jvm.Cond.methodLink "BreakSetterModel" (224 : Nat) ({ cls := "BreakSetterModel", name := "stays", desc := "(II)I" } : Jvm.MethodName)) ∈ lw_all := lw_g (lw_at lw_m7 62 rfl) rfl
theorem q1573 : (Jvm.Cond.privateMethod ({ cls := "BreakSetterModel", name := "stays", desc := "(II)I" } : Jvm.MethodName)) ∈ lw_tbl := lw_at lw_m7 63 rfl
theorem q1574 : (Jvm.Cond.instanceMethod ({ cls := "BreakSetterModel", name := "stays", desc := "(II)I" } : Jvm.MethodName)) ∈ lw_all := lw_g (lw_at lw_m7 64 rfl) rfl
theorem q1575 : (Jvm.Cond.code ({ cls := "BreakSetterModel", name := "stays", desc := "(II)I" } : Jvm.MethodName) prog_9_method_57_code (3 : Nat) (Option.some Jvm.ClassFile.FieldType.int)) ∈ lw_all := lw_g (lw_at lw_m7 65 rfl) rfl
theorem q1576 : (Jvm.Cond.methodLink "BreakSetterModel" (221 : Nat) ({ cls := "BreakSetterModel", name := "helpsAt", desc := "(II)I" } : Jvm.MethodName)) ∈ lw_all := lw_g (lw_at lw_m7 66 rfl) rfl
theorem q1577 : (Jvm.Cond.privateMethod ({ cls := "BreakSetterModel", name := "helpsAt", desc := "(II)I" } : Jvm.MethodName)) ∈ lw_tbl := lw_at lw_m7 67 rfl
theorem q1578 : (Jvm.Cond.instanceMethod ({ cls := "BreakSetterModel", name := "helpsAt", desc := "(II)I" } : Jvm.MethodName)) ∈ lw_all := lw_g (lw_at lw_m7 68 rfl) rfl
theorem q1579 : (Jvm.Cond.code ({ cls := "BreakSetterModel", name := "helpsAt", desc := "(II)I" } : Jvm.MethodName) prog_9_method_56_code (3 : Nat) (Option.some Jvm.ClassFile.FieldType.int)) ∈ lw_all := lw_g (lw_at lw_m7 69 rfl) rfl
theorem q1580 : (Jvm.Cond.methodLink "BreakSetterModel" (230 : Nat) ({ cls := "BreakSetterModel", name := "wayAt", desc := "(II)I" } : Jvm.MethodName)) ∈ lw_all := lw_g (lw_at lw_m7 70 rfl) rfl
theorem q1581 : (Jvm.Cond.privateMethod ({ cls := "BreakSetterModel", name := "wayAt", desc := "(II)I" } : Jvm.MethodName)) ∈ lw_tbl := lw_at lw_m7 71 rfl
theorem q1582 : (Jvm.Cond.instanceMethod ({ cls := "BreakSetterModel", name := "wayAt", desc := "(II)I" } : Jvm.MethodName)) ∈ lw_all := lw_g (lw_at lw_m7 72 rfl) rfl
theorem q1583 : (Jvm.Cond.code ({ cls := "BreakSetterModel", name := "wayAt", desc := "(II)I" } : Jvm.MethodName) prog_9_method_59_code (7 : Nat) (Option.some Jvm.ClassFile.FieldType.int)) ∈ lw_all := lw_g (lw_at lw_m7 73 rfl) rfl
theorem q1585 : (Jvm.Cond.instanceMethod ({ cls := "BreakSetterModel", name := "worst", desc := "()I" } : Jvm.MethodName)) ∈ lw_all := lw_g (lw_at lw_m7 75 rfl) rfl
theorem q1586 : (Jvm.Cond.selects "BreakSetterModel" ({ cls := "BreakSetterModel", name := "worst", desc := "()I" } : Jvm.MethodName) ({ cls := "BreakSetterModel", name := "worst", desc := "()I" } : Jvm.MethodName)) ∈ lw_all := lw_g (lw_at lw_m7 76 rfl) rfl
theorem q1587 : (Jvm.Cond.code ({ cls := "BreakSetterModel", name := "worst", desc := "()I" } : Jvm.MethodName) prog_9_method_61_code (4 : Nat) (Option.some Jvm.ClassFile.FieldType.int)) ∈ lw_all := lw_g (lw_at lw_m7 77 rfl) rfl
theorem q1589 : (Jvm.Cond.instanceMethod ({ cls := "BreakSetterModel", name := "place", desc := "(II)I" } : Jvm.MethodName)) ∈ lw_all := lw_g (lw_at lw_m7 79 rfl) rfl
theorem q1590 : (Jvm.Cond.selects "BreakSetterModel" ({ cls := "BreakSetterModel", name := "place", desc := "(II)I" } : Jvm.MethodName) ({ cls := "BreakSetterModel", name := "place", desc := "(II)I" } : Jvm.MethodName)) ∈ lw_all := lw_g (lw_at lw_m7 80 rfl) rfl
theorem q1591 : (Jvm.Cond.code ({ cls := "BreakSetterModel", name := "place", desc := "(II)I" } : Jvm.MethodName) prog_9_method_63_code (4 : Nat) (Option.some Jvm.ClassFile.FieldType.int)) ∈ lw_all := lw_g (lw_at lw_m7 81 rfl) rfl
theorem q1592 : (Jvm.Cond.methodLink "BreakSetterModel" (233 : Nat) ({ cls := "BreakSetterModel", name := "snap", desc := "()V" } : Jvm.MethodName)) ∈ lw_all := lw_g (lw_at lw_m7 82 rfl) rfl
theorem q1593 : (Jvm.Cond.privateMethod ({ cls := "BreakSetterModel", name := "snap", desc := "()V" } : Jvm.MethodName)) ∈ lw_tbl := lw_at lw_m7 83 rfl
theorem q1594 : (Jvm.Cond.instanceMethod ({ cls := "BreakSetterModel", name := "snap", desc := "()V" } : Jvm.MethodName)) ∈ lw_all := lw_g (lw_at lw_m7 84 rfl) rfl
theorem q1595 : (Jvm.Cond.code ({ cls := "BreakSetterModel", name := "snap", desc := "()V" } : Jvm.MethodName) prog_9_method_62_code (2 : Nat) (Option.none : Option Jvm.ClassFile.FieldType)) ∈ lw_all := lw_g (lw_at lw_m7 85 rfl) rfl
theorem q1597 : (Jvm.Cond.instanceMethod ({ cls := "BreakSetterModel", name := "take", desc := "(I)I" } : Jvm.MethodName)) ∈ lw_all := lw_g (lw_at lw_m7 87 rfl) rfl
theorem q1598 : (Jvm.Cond.selects "BreakSetterModel" ({ cls := "BreakSetterModel", name := "take", desc := "(I)I" } : Jvm.MethodName) ({ cls := "BreakSetterModel", name := "take", desc := "(I)I" } : Jvm.MethodName)) ∈ lw_all := lw_g (lw_at lw_m7 88 rfl) rfl
theorem q1599 : (Jvm.Cond.code ({ cls := "BreakSetterModel", name := "take", desc := "(I)I" } : Jvm.MethodName) prog_9_method_64_code (3 : Nat) (Option.some Jvm.ClassFile.FieldType.int)) ∈ lw_all := lw_g (lw_at lw_m7 89 rfl) rfl
theorem q1601 : (Jvm.Cond.instanceMethod ({ cls := "BreakSetterModel", name := "fill", desc := "()I" } : Jvm.MethodName)) ∈ lw_all := lw_g (lw_at lw_m7 91 rfl) rfl
theorem q1602 : (Jvm.Cond.selects "BreakSetterModel" ({ cls := "BreakSetterModel", name := "fill", desc := "()I" } : Jvm.MethodName) ({ cls := "BreakSetterModel", name := "fill", desc := "()I" } : Jvm.MethodName)) ∈ lw_all := lw_g (lw_at lw_m7 92 rfl) rfl
theorem q1603 : (Jvm.Cond.code ({ cls := "BreakSetterModel", name := "fill", desc := "()I" } : Jvm.MethodName) prog_9_method_65_code (4 : Nat) (Option.some Jvm.ClassFile.FieldType.int)) ∈ lw_all := lw_g (lw_at lw_m7 93 rfl) rfl
theorem q1605 : (Jvm.Cond.instanceMethod ({ cls := "BreakSetterModel", name := "settle", desc := "()I" } : Jvm.MethodName)) ∈ lw_all := lw_g (lw_at lw_m7 95 rfl) rfl
theorem q1606 : (Jvm.Cond.selects "BreakSetterModel" ({ cls := "BreakSetterModel", name := "settle", desc := "()I" } : Jvm.MethodName) ({ cls := "BreakSetterModel", name := "settle", desc := "()I" } : Jvm.MethodName)) ∈ lw_all := lw_g (lw_at lw_m7 96 rfl) rfl
theorem q1607 : (Jvm.Cond.code ({ cls := "BreakSetterModel", name := "settle", desc := "()I" } : Jvm.MethodName) prog_9_method_66_code (3 : Nat) (Option.some Jvm.ClassFile.FieldType.int)) ∈ lw_all := lw_g (lw_at lw_m7 97 rfl) rfl
theorem q1609 : (Jvm.Cond.instanceMethod ({ cls := "BreakSetterModel", name := "undo", desc := "()I" } : Jvm.MethodName)) ∈ lw_all := lw_g (lw_at lw_m7 99 rfl) rfl
theorem q1610 : (Jvm.Cond.selects "BreakSetterModel" ({ cls := "BreakSetterModel", name := "undo", desc := "()I" } : Jvm.MethodName) ({ cls := "BreakSetterModel", name := "undo", desc := "()I" } : Jvm.MethodName)) ∈ lw_all := lw_g (lw_at lw_m7 100 rfl) rfl
theorem q1611 : (Jvm.Cond.code ({ cls := "BreakSetterModel", name := "undo", desc := "()I" } : Jvm.MethodName) prog_9_method_67_code (2 : Nat) (Option.some Jvm.ClassFile.FieldType.int)) ∈ lw_all := lw_g (lw_at lw_m7 101 rfl) rfl
theorem q1641 : (Jvm.Cond.castable "BreakSetterModel" "java/lang/Object") ∈ lw_tbl := lw_at lw_m7 131 rfl
theorem in_X3 : ∀ w ∈ wsX30, w ∈ lw_all := lw_in wsX30 [1321, 1323, 1325, 1327, 1329, 1331, 1333, 1335, 1337, 1339, 1341, 1343, 1345, 1347, 1349, 1351, 1353, 1355, 1357, 1359, 1361, 1363, 1365] (by decide +kernel) (by decide +kernel)

