/-! BreakSetter$Plan -/
set_option maxRecDepth 100000
def RX2 : String := "BreakSetter$Plan"
def TX2 : u_T := fun k => match k with
  | 0 => ("BreakSetter$Plan", "posts", "I", false)
  | 1 => ("BreakSetter$Plan", "walk", "I", false)
  | 2 => ("BreakSetter$Plan", "shifts", "I", false)
  | 3 => ("BreakSetter$Plan", "pauses", "I", false)
  | 4 => ("BreakSetter$Plan", "needs", "I", false)
  | 5 => ("BreakSetter$Plan", "shift", "[LBreakSetter$Shift;", true)
  | 6 => ("BreakSetter$Plan", "pause", "[LBreakSetter$Pause;", true)
  | 7 => ("BreakSetter$Plan", "need", "[I", true)
  | _ => ("BreakSetter$Plan", "duty", "[I", true)
def tyX2 : Nat → FieldType := fun k => match k with
  | 0 => .int
  | 1 => .int
  | 2 => .int
  | 3 => .int
  | 4 => .int
  | 5 => .array (.object "BreakSetter$Shift")
  | 6 => .array (.object "BreakSetter$Pause")
  | 7 => .array .int
  | _ => .array .int
abbrev wsX20 : List Cond := u_ws RX2 TX2 9
theorem nmX2 : ∀ a, a < 9 → ∀ b, b < 9 → a ≠ b → (TX2 a).2.1 ≠ (TX2 b).2.1 := by decide +kernel
theorem tyX2_ok : ∀ k, k < 9 → parseFieldDescriptor (TX2 k).2.2.1 = some (tyX2 k) := by decide +kernel
abbrev cX2_init : ByteArray := prog_4_method_1_code
def yX2_init : MethodName := ⟨RX2, "<init>", "()V"⟩
def dkwX2_init_2 : List UInt8 := [181, 0, 34, 177]
abbrev dktX2_init_2 : List UInt8 := dkwX2_init_2 ++ []
def dkwX2_init_1 : List UInt8 := [16, 24, 189, 0, 24, 181, 0, 26, 42, 17, 0, 144, 188, 10, 181, 0, 30, 42, 17, 0, 144, 188, 10]
abbrev dktX2_init_1 : List UInt8 := dkwX2_init_1 ++ dktX2_init_2
def dkwX2_init_0 : List UInt8 := [42, 183, 0, 3, 42, 4, 181, 0, 9, 42, 4, 181, 0, 15, 42, 16, 8, 189, 0, 18, 181, 0, 20, 42]
abbrev dktX2_init_0 : List UInt8 := dkwX2_init_0 ++ dktX2_init_1
theorem dksX2_init_0 : cX2_init.data.toList.drop 0 = dktX2_init_0 := by decide +kernel
theorem dksX2_init_1 : cX2_init.data.toList.drop 24 = dktX2_init_1 := dk_seg dksX2_init_0 24 rfl rfl
theorem dksX2_init_2 : cX2_init.data.toList.drop 47 = dktX2_init_2 := dk_seg dksX2_init_1 23 rfl rfl
theorem dX2_init_0 : decode cX2_init 0 = .ok (.aload_n 0, 1) := dk_42 (dk_at dksX2_init_0 0 rfl rfl)
theorem dX2_init_1 : decode cX2_init 1 = .ok (.invokespecial 3, 3) := dk_183 0 3 (dk_at dksX2_init_0 1 rfl rfl)
theorem dX2_init_4 : decode cX2_init 4 = .ok (.aload_n 0, 1) := dk_42 (dk_at dksX2_init_0 4 rfl rfl)
theorem dX2_init_5 : decode cX2_init 5 = .ok (.iconst 1, 1) := dk_4 (dk_at dksX2_init_0 5 rfl rfl)
theorem dX2_init_6 : decode cX2_init 6 = .ok (.putfield 9, 3) := dk_181 0 9 (dk_at dksX2_init_0 6 rfl rfl)
theorem dX2_init_9 : decode cX2_init 9 = .ok (.aload_n 0, 1) := dk_42 (dk_at dksX2_init_0 9 rfl rfl)
theorem dX2_init_10 : decode cX2_init 10 = .ok (.iconst 1, 1) := dk_4 (dk_at dksX2_init_0 10 rfl rfl)
theorem dX2_init_11 : decode cX2_init 11 = .ok (.putfield 15, 3) := dk_181 0 15 (dk_at dksX2_init_0 11 rfl rfl)
theorem dX2_init_14 : decode cX2_init 14 = .ok (.aload_n 0, 1) := dk_42 (dk_at dksX2_init_0 14 rfl rfl)
theorem dX2_init_15 : decode cX2_init 15 = .ok (.bipush 8, 2) := dk_16 8 (dk_at dksX2_init_0 15 rfl rfl)
theorem dX2_init_17 : decode cX2_init 17 = .ok (.anewarray 18, 3) := dk_189 0 18 (dk_at dksX2_init_0 17 rfl rfl)
theorem dX2_init_20 : decode cX2_init 20 = .ok (.putfield 20, 3) := dk_181 0 20 (dk_at dksX2_init_0 20 rfl rfl)
theorem dX2_init_23 : decode cX2_init 23 = .ok (.aload_n 0, 1) := dk_42 (dk_at dksX2_init_0 23 rfl rfl)
theorem dX2_init_24 : decode cX2_init 24 = .ok (.bipush 24, 2) := dk_16 24 (dk_at dksX2_init_1 0 rfl rfl)
theorem dX2_init_26 : decode cX2_init 26 = .ok (.anewarray 24, 3) := dk_189 0 24 (dk_at dksX2_init_1 2 rfl rfl)
theorem dX2_init_29 : decode cX2_init 29 = .ok (.putfield 26, 3) := dk_181 0 26 (dk_at dksX2_init_1 5 rfl rfl)
theorem dX2_init_32 : decode cX2_init 32 = .ok (.aload_n 0, 1) := dk_42 (dk_at dksX2_init_1 8 rfl rfl)
theorem dX2_init_33 : decode cX2_init 33 = .ok (.sipush 144, 3) := dk_17 0 144 (dk_at dksX2_init_1 9 rfl rfl)
theorem dX2_init_36 : decode cX2_init 36 = .ok (.newarray .int, 2) := dk_188_10 (dk_at dksX2_init_1 12 rfl rfl)
theorem dX2_init_38 : decode cX2_init 38 = .ok (.putfield 30, 3) := dk_181 0 30 (dk_at dksX2_init_1 14 rfl rfl)
theorem dX2_init_41 : decode cX2_init 41 = .ok (.aload_n 0, 1) := dk_42 (dk_at dksX2_init_1 17 rfl rfl)
theorem dX2_init_42 : decode cX2_init 42 = .ok (.sipush 144, 3) := dk_17 0 144 (dk_at dksX2_init_1 18 rfl rfl)
theorem dX2_init_45 : decode cX2_init 45 = .ok (.newarray .int, 2) := dk_188_10 (dk_at dksX2_init_1 21 rfl rfl)
theorem dX2_init_47 : decode cX2_init 47 = .ok (.putfield 34, 3) := dk_181 0 34 (dk_at dksX2_init_2 0 rfl rfl)
theorem dX2_init_50 : decode cX2_init 50 = .ok (.return_, 1) := dk_177 (dk_at dksX2_init_2 3 rfl rfl)
abbrev cX2_adds : ByteArray := prog_4_method_2_code
def yX2_adds : MethodName := ⟨RX2, "adds", "(LBreakSetter$Shift;)V"⟩
def dkwX2_adds_2 : List UInt8 := [4, 96, 79, 132, 2, 1, 167, 255, 227, 177]
abbrev dktX2_adds_2 : List UInt8 := dkwX2_adds_2 ++ []
def dkwX2_adds_1 : List UInt8 := [61, 28, 43, 180, 0, 43, 163, 0, 27, 42, 180, 0, 34, 16, 48, 43, 180, 0, 46, 104, 28, 96, 92, 46]
abbrev dktX2_adds_1 : List UInt8 := dkwX2_adds_1 ++ dktX2_adds_2
def dkwX2_adds_0 : List UInt8 := [42, 180, 0, 20, 42, 180, 0, 37, 43, 83, 42, 89, 180, 0, 37, 4, 96, 181, 0, 37, 43, 180, 0, 40]
abbrev dktX2_adds_0 : List UInt8 := dkwX2_adds_0 ++ dktX2_adds_1
theorem dksX2_adds_0 : cX2_adds.data.toList.drop 0 = dktX2_adds_0 := by decide +kernel
theorem dksX2_adds_1 : cX2_adds.data.toList.drop 24 = dktX2_adds_1 := dk_seg dksX2_adds_0 24 rfl rfl
theorem dksX2_adds_2 : cX2_adds.data.toList.drop 48 = dktX2_adds_2 := dk_seg dksX2_adds_1 24 rfl rfl
theorem dX2_adds_0 : decode cX2_adds 0 = .ok (.aload_n 0, 1) := dk_42 (dk_at dksX2_adds_0 0 rfl rfl)
theorem dX2_adds_1 : decode cX2_adds 1 = .ok (.getfield 20, 3) := dk_180 0 20 (dk_at dksX2_adds_0 1 rfl rfl)
theorem dX2_adds_4 : decode cX2_adds 4 = .ok (.aload_n 0, 1) := dk_42 (dk_at dksX2_adds_0 4 rfl rfl)
theorem dX2_adds_5 : decode cX2_adds 5 = .ok (.getfield 37, 3) := dk_180 0 37 (dk_at dksX2_adds_0 5 rfl rfl)
theorem dX2_adds_8 : decode cX2_adds 8 = .ok (.aload_n 1, 1) := dk_43 (dk_at dksX2_adds_0 8 rfl rfl)
theorem dX2_adds_9 : decode cX2_adds 9 = .ok (.aastore, 1) := dk_83 (dk_at dksX2_adds_0 9 rfl rfl)
theorem dX2_adds_10 : decode cX2_adds 10 = .ok (.aload_n 0, 1) := dk_42 (dk_at dksX2_adds_0 10 rfl rfl)
theorem dX2_adds_11 : decode cX2_adds 11 = .ok (.dup, 1) := dk_89 (dk_at dksX2_adds_0 11 rfl rfl)
theorem dX2_adds_12 : decode cX2_adds 12 = .ok (.getfield 37, 3) := dk_180 0 37 (dk_at dksX2_adds_0 12 rfl rfl)
theorem dX2_adds_15 : decode cX2_adds 15 = .ok (.iconst 1, 1) := dk_4 (dk_at dksX2_adds_0 15 rfl rfl)
theorem dX2_adds_16 : decode cX2_adds 16 = .ok (.iadd, 1) := dk_96 (dk_at dksX2_adds_0 16 rfl rfl)
theorem dX2_adds_17 : decode cX2_adds 17 = .ok (.putfield 37, 3) := dk_181 0 37 (dk_at dksX2_adds_0 17 rfl rfl)
theorem dX2_adds_20 : decode cX2_adds 20 = .ok (.aload_n 1, 1) := dk_43 (dk_at dksX2_adds_0 20 rfl rfl)
theorem dX2_adds_21 : decode cX2_adds 21 = .ok (.getfield 40, 3) := dk_180 0 40 (dk_at dksX2_adds_0 21 rfl rfl)
theorem dX2_adds_24 : decode cX2_adds 24 = .ok (.istore_n 2, 1) := dk_61 (dk_at dksX2_adds_1 0 rfl rfl)
theorem dX2_adds_25 : decode cX2_adds 25 = .ok (.iload_n 2, 1) := dk_28 (dk_at dksX2_adds_1 1 rfl rfl)
theorem dX2_adds_26 : decode cX2_adds 26 = .ok (.aload_n 1, 1) := dk_43 (dk_at dksX2_adds_1 2 rfl rfl)
theorem dX2_adds_27 : decode cX2_adds 27 = .ok (.getfield 43, 3) := dk_180 0 43 (dk_at dksX2_adds_1 3 rfl rfl)
theorem dX2_adds_30 : decode cX2_adds 30 = .ok (.if_icmp .gt 27, 3) := dk_163 0 27 (dk_at dksX2_adds_1 6 rfl rfl)
theorem dX2_adds_33 : decode cX2_adds 33 = .ok (.aload_n 0, 1) := dk_42 (dk_at dksX2_adds_1 9 rfl rfl)
theorem dX2_adds_34 : decode cX2_adds 34 = .ok (.getfield 34, 3) := dk_180 0 34 (dk_at dksX2_adds_1 10 rfl rfl)
theorem dX2_adds_37 : decode cX2_adds 37 = .ok (.bipush 48, 2) := dk_16 48 (dk_at dksX2_adds_1 13 rfl rfl)
theorem dX2_adds_39 : decode cX2_adds 39 = .ok (.aload_n 1, 1) := dk_43 (dk_at dksX2_adds_1 15 rfl rfl)
theorem dX2_adds_40 : decode cX2_adds 40 = .ok (.getfield 46, 3) := dk_180 0 46 (dk_at dksX2_adds_1 16 rfl rfl)
theorem dX2_adds_43 : decode cX2_adds 43 = .ok (.imul, 1) := dk_104 (dk_at dksX2_adds_1 19 rfl rfl)
theorem dX2_adds_44 : decode cX2_adds 44 = .ok (.iload_n 2, 1) := dk_28 (dk_at dksX2_adds_1 20 rfl rfl)
theorem dX2_adds_45 : decode cX2_adds 45 = .ok (.iadd, 1) := dk_96 (dk_at dksX2_adds_1 21 rfl rfl)
theorem dX2_adds_46 : decode cX2_adds 46 = .ok (.dup2, 1) := dk_92 (dk_at dksX2_adds_1 22 rfl rfl)
theorem dX2_adds_47 : decode cX2_adds 47 = .ok (.iaload, 1) := dk_46 (dk_at dksX2_adds_1 23 rfl rfl)
theorem dX2_adds_48 : decode cX2_adds 48 = .ok (.iconst 1, 1) := dk_4 (dk_at dksX2_adds_2 0 rfl rfl)
theorem dX2_adds_49 : decode cX2_adds 49 = .ok (.iadd, 1) := dk_96 (dk_at dksX2_adds_2 1 rfl rfl)
theorem dX2_adds_50 : decode cX2_adds 50 = .ok (.iastore, 1) := dk_79 (dk_at dksX2_adds_2 2 rfl rfl)
theorem dX2_adds_51 : decode cX2_adds 51 = .ok (.iinc 2 1, 3) := dk_132 2 1 (dk_at dksX2_adds_2 3 rfl rfl)
theorem dX2_adds_54 : decode cX2_adds 54 = .ok (.goto (-29), 3) := dk_167 255 227 (dk_at dksX2_adds_2 6 rfl rfl)
theorem dX2_adds_57 : decode cX2_adds 57 = .ok (.return_, 1) := dk_177 (dk_at dksX2_adds_2 9 rfl rfl)
abbrev cX2_adds_2 : ByteArray := prog_4_method_3_code
def yX2_adds_2 : MethodName := ⟨RX2, "adds", "(LBreakSetter$Pause;)V"⟩
def dkwX2_adds_2_2 : List UInt8 := [89, 180, 0, 54, 4, 96, 181, 0, 54, 177]
abbrev dktX2_adds_2_2 : List UInt8 := dkwX2_adds_2_2 ++ []
def dkwX2_adds_2_1 : List UInt8 := [181, 0, 55, 44, 89, 180, 0, 51, 4, 96, 181, 0, 51, 42, 180, 0, 26, 42, 180, 0, 54, 43, 83, 42]
abbrev dktX2_adds_2_1 : List UInt8 := dkwX2_adds_2_1 ++ dktX2_adds_2_2
def dkwX2_adds_2_0 : List UInt8 := [42, 180, 0, 20, 43, 180, 0, 49, 50, 77, 44, 180, 0, 51, 154, 0, 11, 44, 42, 180, 0, 54]
abbrev dktX2_adds_2_0 : List UInt8 := dkwX2_adds_2_0 ++ dktX2_adds_2_1
theorem dksX2_adds_2_0 : cX2_adds_2.data.toList.drop 0 = dktX2_adds_2_0 := by decide +kernel
theorem dksX2_adds_2_1 : cX2_adds_2.data.toList.drop 22 = dktX2_adds_2_1 := dk_seg dksX2_adds_2_0 22 rfl rfl
theorem dksX2_adds_2_2 : cX2_adds_2.data.toList.drop 46 = dktX2_adds_2_2 := dk_seg dksX2_adds_2_1 24 rfl rfl
theorem dX2_adds_2_0 : decode cX2_adds_2 0 = .ok (.aload_n 0, 1) := dk_42 (dk_at dksX2_adds_2_0 0 rfl rfl)
theorem dX2_adds_2_1 : decode cX2_adds_2 1 = .ok (.getfield 20, 3) := dk_180 0 20 (dk_at dksX2_adds_2_0 1 rfl rfl)
theorem dX2_adds_2_4 : decode cX2_adds_2 4 = .ok (.aload_n 1, 1) := dk_43 (dk_at dksX2_adds_2_0 4 rfl rfl)
theorem dX2_adds_2_5 : decode cX2_adds_2 5 = .ok (.getfield 49, 3) := dk_180 0 49 (dk_at dksX2_adds_2_0 5 rfl rfl)
theorem dX2_adds_2_8 : decode cX2_adds_2 8 = .ok (.aaload, 1) := dk_50 (dk_at dksX2_adds_2_0 8 rfl rfl)
theorem dX2_adds_2_9 : decode cX2_adds_2 9 = .ok (.astore_n 2, 1) := dk_77 (dk_at dksX2_adds_2_0 9 rfl rfl)
theorem dX2_adds_2_10 : decode cX2_adds_2 10 = .ok (.aload_n 2, 1) := dk_44 (dk_at dksX2_adds_2_0 10 rfl rfl)
theorem dX2_adds_2_11 : decode cX2_adds_2 11 = .ok (.getfield 51, 3) := dk_180 0 51 (dk_at dksX2_adds_2_0 11 rfl rfl)
theorem dX2_adds_2_14 : decode cX2_adds_2 14 = .ok (.ifCond .ne 11, 3) := dk_154 0 11 (dk_at dksX2_adds_2_0 14 rfl rfl)
theorem dX2_adds_2_17 : decode cX2_adds_2 17 = .ok (.aload_n 2, 1) := dk_44 (dk_at dksX2_adds_2_0 17 rfl rfl)
theorem dX2_adds_2_18 : decode cX2_adds_2 18 = .ok (.aload_n 0, 1) := dk_42 (dk_at dksX2_adds_2_0 18 rfl rfl)
theorem dX2_adds_2_19 : decode cX2_adds_2 19 = .ok (.getfield 54, 3) := dk_180 0 54 (dk_at dksX2_adds_2_0 19 rfl rfl)
theorem dX2_adds_2_22 : decode cX2_adds_2 22 = .ok (.putfield 55, 3) := dk_181 0 55 (dk_at dksX2_adds_2_1 0 rfl rfl)
theorem dX2_adds_2_25 : decode cX2_adds_2 25 = .ok (.aload_n 2, 1) := dk_44 (dk_at dksX2_adds_2_1 3 rfl rfl)
theorem dX2_adds_2_26 : decode cX2_adds_2 26 = .ok (.dup, 1) := dk_89 (dk_at dksX2_adds_2_1 4 rfl rfl)
theorem dX2_adds_2_27 : decode cX2_adds_2 27 = .ok (.getfield 51, 3) := dk_180 0 51 (dk_at dksX2_adds_2_1 5 rfl rfl)
theorem dX2_adds_2_30 : decode cX2_adds_2 30 = .ok (.iconst 1, 1) := dk_4 (dk_at dksX2_adds_2_1 8 rfl rfl)
theorem dX2_adds_2_31 : decode cX2_adds_2 31 = .ok (.iadd, 1) := dk_96 (dk_at dksX2_adds_2_1 9 rfl rfl)
theorem dX2_adds_2_32 : decode cX2_adds_2 32 = .ok (.putfield 51, 3) := dk_181 0 51 (dk_at dksX2_adds_2_1 10 rfl rfl)
theorem dX2_adds_2_35 : decode cX2_adds_2 35 = .ok (.aload_n 0, 1) := dk_42 (dk_at dksX2_adds_2_1 13 rfl rfl)
theorem dX2_adds_2_36 : decode cX2_adds_2 36 = .ok (.getfield 26, 3) := dk_180 0 26 (dk_at dksX2_adds_2_1 14 rfl rfl)
theorem dX2_adds_2_39 : decode cX2_adds_2 39 = .ok (.aload_n 0, 1) := dk_42 (dk_at dksX2_adds_2_1 17 rfl rfl)
theorem dX2_adds_2_40 : decode cX2_adds_2 40 = .ok (.getfield 54, 3) := dk_180 0 54 (dk_at dksX2_adds_2_1 18 rfl rfl)
theorem dX2_adds_2_43 : decode cX2_adds_2 43 = .ok (.aload_n 1, 1) := dk_43 (dk_at dksX2_adds_2_1 21 rfl rfl)
theorem dX2_adds_2_44 : decode cX2_adds_2 44 = .ok (.aastore, 1) := dk_83 (dk_at dksX2_adds_2_1 22 rfl rfl)
theorem dX2_adds_2_45 : decode cX2_adds_2 45 = .ok (.aload_n 0, 1) := dk_42 (dk_at dksX2_adds_2_1 23 rfl rfl)
theorem dX2_adds_2_46 : decode cX2_adds_2 46 = .ok (.dup, 1) := dk_89 (dk_at dksX2_adds_2_2 0 rfl rfl)
theorem dX2_adds_2_47 : decode cX2_adds_2 47 = .ok (.getfield 54, 3) := dk_180 0 54 (dk_at dksX2_adds_2_2 1 rfl rfl)
theorem dX2_adds_2_50 : decode cX2_adds_2 50 = .ok (.iconst 1, 1) := dk_4 (dk_at dksX2_adds_2_2 4 rfl rfl)
theorem dX2_adds_2_51 : decode cX2_adds_2 51 = .ok (.iadd, 1) := dk_96 (dk_at dksX2_adds_2_2 5 rfl rfl)
theorem dX2_adds_2_52 : decode cX2_adds_2 52 = .ok (.putfield 54, 3) := dk_181 0 54 (dk_at dksX2_adds_2_2 6 rfl rfl)
theorem dX2_adds_2_55 : decode cX2_adds_2 55 = .ok (.return_, 1) := dk_177 (dk_at dksX2_adds_2_2 9 rfl rfl)
theorem q72 : (Jvm.Cond.initialized "BreakSetter$Plan") ∈ lw_all := lw_g (lw_at lw_m1 2 rfl) rfl
theorem q120 : (Jvm.Cond.instantiable "BreakSetter$Plan" (9 : Nat)) ∈ lw_all := lw_g (lw_at lw_m1 50 rfl) rfl
theorem q122 : (Jvm.Cond.instanceMethod ({ cls := "BreakSetter$Plan", name := "<init>", desc := "()V" } : Jvm.MethodName)) ∈ lw_all := lw_g (lw_at lw_m1 52 rfl) rfl
theorem q123 : (Jvm.Cond.code ({ cls := "BreakSetter$Plan", name := "<init>", desc := "()V" } : Jvm.MethodName) prog_4_method_1_code (1 : Nat) (Option.none : Option Jvm.ClassFile.FieldType)) ∈ lw_all := lw_g (lw_at lw_m1 53 rfl) rfl
theorem q124 : (Jvm.Cond.methodLink "BreakSetter$Plan" (3 : Nat) ({ cls := "java/lang/Object", name := "<init>", desc := "()V" } : Jvm.MethodName)) ∈ lw_all := lw_g (lw_at lw_m1 54 rfl) rfl
theorem q125 : (Jvm.Cond.classLink "BreakSetter$Plan" (18 : Nat) "BreakSetter$Shift") ∈ lw_all := lw_g (lw_at lw_m1 55 rfl) rfl
theorem q127 : (Jvm.Cond.classLink "BreakSetter$Plan" (24 : Nat) "BreakSetter$Pause") ∈ lw_all := lw_g (lw_at lw_m1 57 rfl) rfl
theorem q129 : (Jvm.Cond.fieldLink "BreakSetter$Plan" (9 : Nat) "BreakSetter$Plan" "posts" "I") ∈ lw_all := lw_g (lw_at lw_m1 59 rfl) rfl
theorem q132 : (Jvm.Cond.fieldLink "BreakSetter$Plan" (15 : Nat) "BreakSetter$Plan" "walk" "I") ∈ lw_all := lw_g (lw_at lw_m1 62 rfl) rfl
theorem q135 : (Jvm.Cond.fieldLink "BreakSetter$Plan" (37 : Nat) "BreakSetter$Plan" "shifts" "I") ∈ lw_all := lw_g (lw_at lw_m1 65 rfl) rfl
theorem q138 : (Jvm.Cond.fieldLink "BreakSetter$Plan" (54 : Nat) "BreakSetter$Plan" "pauses" "I") ∈ lw_all := lw_g (lw_at lw_m1 68 rfl) rfl
theorem q141 : (Jvm.Cond.fieldLink "BreakSetter$Plan" (20 : Nat) "BreakSetter$Plan" "shift" "[LBreakSetter$Shift;") ∈ lw_all := lw_g (lw_at lw_m1 71 rfl) rfl
theorem q143 : (Jvm.Cond.fieldLink "BreakSetter$Plan" (26 : Nat) "BreakSetter$Plan" "pause" "[LBreakSetter$Pause;") ∈ lw_all := lw_g (lw_at lw_m1 73 rfl) rfl
theorem q145 : (Jvm.Cond.fieldLink "BreakSetter$Plan" (30 : Nat) "BreakSetter$Plan" "need" "[I") ∈ lw_all := lw_g (lw_at lw_m1 75 rfl) rfl
theorem q148 : (Jvm.Cond.fieldLink "BreakSetter$Plan" (34 : Nat) "BreakSetter$Plan" "duty" "[I") ∈ lw_all := lw_g (lw_at lw_m1 78 rfl) rfl
theorem q150 : (Jvm.Cond.lays "BreakSetter$Plan" "BreakSetter$Plan" "posts" "I") ∈ lw_all := lw_g (lw_at lw_m1 80 rfl) rfl
theorem q151 : (Jvm.Cond.soleField "BreakSetter$Plan" "posts") ∈ lw_all := lw_g (lw_at lw_m1 81 rfl) rfl
theorem q152 : (Jvm.Cond.lays "BreakSetter$Plan" "BreakSetter$Plan" "walk" "I") ∈ lw_all := lw_g (lw_at lw_m1 82 rfl) rfl
theorem q153 : (Jvm.Cond.soleField "BreakSetter$Plan" "walk") ∈ lw_all := lw_g (lw_at lw_m1 83 rfl) rfl
theorem q154 : (Jvm.Cond.lays "BreakSetter$Plan" "BreakSetter$Plan" "shifts" "I") ∈ lw_all := lw_g (lw_at lw_m1 84 rfl) rfl
theorem q155 : (Jvm.Cond.soleField "BreakSetter$Plan" "shifts") ∈ lw_all := lw_g (lw_at lw_m1 85 rfl) rfl
theorem q156 : (Jvm.Cond.lays "BreakSetter$Plan" "BreakSetter$Plan" "pauses" "I") ∈ lw_all := lw_g (lw_at lw_m1 86 rfl) rfl
theorem q157 : (Jvm.Cond.soleField "BreakSetter$Plan" "pauses") ∈ lw_all := lw_g (lw_at lw_m1 87 rfl) rfl
theorem q158 : (Jvm.Cond.lays "BreakSetter$Plan" "BreakSetter$Plan" "needs" "I") ∈ lw_all := lw_g (lw_at lw_m1 88 rfl) rfl
theorem q159 : (Jvm.Cond.soleField "BreakSetter$Plan" "needs") ∈ lw_all := lw_g (lw_at lw_m1 89 rfl) rfl
theorem q160 : (Jvm.Cond.laysFinal "BreakSetter$Plan" "BreakSetter$Plan" "shift" "[LBreakSetter$Shift;") ∈ lw_all := lw_g (lw_at lw_m1 90 rfl) rfl
theorem q161 : (Jvm.Cond.soleField "BreakSetter$Plan" "shift") ∈ lw_all := lw_g (lw_at lw_m1 91 rfl) rfl
theorem q162 : (Jvm.Cond.laysFinal "BreakSetter$Plan" "BreakSetter$Plan" "pause" "[LBreakSetter$Pause;") ∈ lw_all := lw_g (lw_at lw_m1 92 rfl) rfl
theorem q163 : (Jvm.Cond.soleField "BreakSetter$Plan" "pause") ∈ lw_all := lw_g (lw_at lw_m1 93 rfl) rfl
theorem q164 : (Jvm.Cond.laysFinal "BreakSetter$Plan" "BreakSetter$Plan" "need" "[I") ∈ lw_all := lw_g (lw_at lw_m1 94 rfl) rfl
theorem q165 : (Jvm.Cond.soleField "BreakSetter$Plan" "need") ∈ lw_all := lw_g (lw_at lw_m1 95 rfl) rfl
theorem q166 : (Jvm.Cond.laysFinal "BreakSetter$Plan" "BreakSetter$Plan" "duty" "[I") ∈ lw_all := lw_g (lw_at lw_m1 96 rfl) rfl
theorem q167 : (Jvm.Cond.soleField "BreakSetter$Plan" "duty") ∈ lw_all := lw_g (lw_at lw_m1 97 rfl) rfl
theorem q168 : (Jvm.Cond.superclass "BreakSetter$Plan" "java/lang/Object") ∈ lw_all := lw_g (lw_at lw_m1 98 rfl) rfl
theorem q887 : (Jvm.Cond.selects "BreakSetter$Plan" ({ cls := "java/lang/Object", name := "getClass", desc := "()Ljava/lang/Class;" } : Jvm.MethodName) ({ cls := "java/lang/Object", name := "getClass", desc := "()Ljava/lang/Class;" } : Jvm.MethodName)) ∈ lw_all := lw_g (lw_at lw_m4 97 rfl) rfl
theorem q1178 : (Jvm.Cond.fieldLinkNest "BreakSetter$Plan" (46 : Nat) "BreakSetter$Shift" "post" "I" "BreakSetter") ∈ lw_tbl := lw_at lw_m5 148 rfl
theorem q1181 : (Jvm.Cond.fieldLinkNest "BreakSetter$Plan" (40 : Nat) "BreakSetter$Shift" "from" "I" "BreakSetter") ∈ lw_tbl := lw_at lw_m5 151 rfl
theorem q1185 : (Jvm.Cond.fieldLinkNest "BreakSetter$Plan" (43 : Nat) "BreakSetter$Shift" "to" "I" "BreakSetter") ∈ lw_tbl := lw_at lw_m5 155 rfl
theorem q1188 : (Jvm.Cond.fieldLinkNest "BreakSetter$Plan" (51 : Nat) "BreakSetter$Shift" "pauses" "I" "BreakSetter") ∈ lw_tbl := lw_at lw_m5 158 rfl
theorem q1192 : (Jvm.Cond.fieldLinkNest "BreakSetter$Plan" (55 : Nat) "BreakSetter$Shift" "first" "I" "BreakSetter") ∈ lw_tbl := lw_at lw_m5 162 rfl
theorem q1206 : (Jvm.Cond.instanceMethod ({ cls := "BreakSetter$Plan", name := "adds", desc := "(LBreakSetter$Shift;)V" } : Jvm.MethodName)) ∈ lw_all := lw_g (lw_at lw_m5 176 rfl) rfl
theorem q1207 : (Jvm.Cond.selects "BreakSetter$Plan" ({ cls := "BreakSetter$Plan", name := "adds", desc := "(LBreakSetter$Shift;)V" } : Jvm.MethodName) ({ cls := "BreakSetter$Plan", name := "adds", desc := "(LBreakSetter$Shift;)V" } : Jvm.MethodName)) ∈ lw_all := lw_g (lw_at lw_m5 177 rfl) rfl
theorem q1208 : (Jvm.Cond.code ({ cls := "BreakSetter$Plan", name := "adds", desc := "(LBreakSetter$Shift;)V" } : Jvm.MethodName) prog_4_method_2_code (3 : Nat) (Option.none : Option Jvm.ClassFile.FieldType)) ∈ lw_all := lw_g (lw_at lw_m5 178 rfl) rfl
theorem q1220 : (Jvm.Cond.fieldLinkNest "BreakSetter$Plan" (49 : Nat) "BreakSetter$Pause" "shift" "I" "BreakSetter") ∈ lw_tbl := lw_at lw_m5 190 rfl
theorem q1239 : (Jvm.Cond.instanceMethod ({ cls := "BreakSetter$Plan", name := "adds", desc := "(LBreakSetter$Pause;)V" } : Jvm.MethodName)) ∈ lw_all := lw_g (lw_at lw_m5 209 rfl) rfl
theorem q1240 : (Jvm.Cond.selects "BreakSetter$Plan" ({ cls := "BreakSetter$Plan", name := "adds", desc := "(LBreakSetter$Pause;)V" } : Jvm.MethodName) ({ cls := "BreakSetter$Plan", name := "adds", desc := "(LBreakSetter$Pause;)V" } : Jvm.MethodName)) ∈ lw_all := lw_g (lw_at lw_m5 210 rfl) rfl
theorem q1241 : (Jvm.Cond.code ({ cls := "BreakSetter$Plan", name := "adds", desc := "(LBreakSetter$Pause;)V" } : Jvm.MethodName) prog_4_method_3_code (3 : Nat) (Option.none : Option Jvm.ClassFile.FieldType)) ∈ lw_all := lw_g (lw_at lw_m5 211 rfl) rfl
theorem q1640 : (Jvm.Cond.castable "BreakSetter$Plan" "java/lang/Object") ∈ lw_tbl := lw_at lw_m7 130 rfl
theorem in_X2 : ∀ w ∈ wsX20, w ∈ lw_all := lw_in wsX20 [150, 152, 154, 156, 158, 160, 162, 164, 166] (by decide +kernel) (by decide +kernel)

/-! BreakSetter$Reader -/
set_option maxRecDepth 100000
def RX4 : String := "BreakSetter$Reader"
def TX4 : u_T := fun k => match k with
  | 0 => ("BreakSetter$Reader", "p", "I", false)
  | 1 => ("BreakSetter$Reader", "at", "I", false)
  | 2 => ("BreakSetter$Reader", "token", "I", false)
  | 3 => ("BreakSetter$Reader", "value", "I", false)
  | 4 => ("BreakSetter$Reader", "lines", "I", false)
  | 5 => ("BreakSetter$Reader", "made", "LBreakSetter$Plan;", true)
  | _ => ("BreakSetter$Reader", "this$0", "LBreakSetter;", true)
def tyX4 : Nat → FieldType := fun k => match k with
  | 0 => .int
  | 1 => .int
  | 2 => .int
  | 3 => .int
  | 4 => .int
  | 5 => .object "BreakSetter$Plan"
  | _ => .object "BreakSetter"
abbrev wsX40 : List Cond := u_ws RX4 TX4 7
theorem nmX4 : ∀ a, a < 7 → ∀ b, b < 7 → a ≠ b → (TX4 a).2.1 ≠ (TX4 b).2.1 := by decide +kernel
theorem tyX4_ok : ∀ k, k < 7 → parseFieldDescriptor (TX4 k).2.2.1 = some (tyX4 k) := by decide +kernel
abbrev cX4_init : ByteArray := prog_5_method_1_code
def yX4_init : MethodName := ⟨RX4, "<init>", "(LBreakSetter;)V"⟩
def dkwX4_init_0 : List UInt8 := [42, 43, 181, 0, 3, 42, 183, 0, 9, 42, 187, 0, 15, 89, 183, 0, 17, 181, 0, 18, 177]
abbrev dktX4_init_0 : List UInt8 := dkwX4_init_0 ++ []
theorem dksX4_init_0 : cX4_init.data.toList.drop 0 = dktX4_init_0 := by decide +kernel
theorem dX4_init_0 : decode cX4_init 0 = .ok (.aload_n 0, 1) := dk_42 (dk_at dksX4_init_0 0 rfl rfl)
theorem dX4_init_1 : decode cX4_init 1 = .ok (.aload_n 1, 1) := dk_43 (dk_at dksX4_init_0 1 rfl rfl)
theorem dX4_init_2 : decode cX4_init 2 = .ok (.putfield 3, 3) := dk_181 0 3 (dk_at dksX4_init_0 2 rfl rfl)
theorem dX4_init_5 : decode cX4_init 5 = .ok (.aload_n 0, 1) := dk_42 (dk_at dksX4_init_0 5 rfl rfl)
theorem dX4_init_6 : decode cX4_init 6 = .ok (.invokespecial 9, 3) := dk_183 0 9 (dk_at dksX4_init_0 6 rfl rfl)
theorem dX4_init_9 : decode cX4_init 9 = .ok (.aload_n 0, 1) := dk_42 (dk_at dksX4_init_0 9 rfl rfl)
theorem dX4_init_10 : decode cX4_init 10 = .ok (.new 15, 3) := dk_187 0 15 (dk_at dksX4_init_0 10 rfl rfl)
theorem dX4_init_13 : decode cX4_init 13 = .ok (.dup, 1) := dk_89 (dk_at dksX4_init_0 13 rfl rfl)
theorem dX4_init_14 : decode cX4_init 14 = .ok (.invokespecial 17, 3) := dk_183 0 17 (dk_at dksX4_init_0 14 rfl rfl)
theorem dX4_init_17 : decode cX4_init 17 = .ok (.putfield 18, 3) := dk_181 0 18 (dk_at dksX4_init_0 17 rfl rfl)
theorem dX4_init_20 : decode cX4_init 20 = .ok (.return_, 1) := dk_177 (dk_at dksX4_init_0 20 rfl rfl)
abbrev cX4_whole : ByteArray := prog_5_method_13_code
def yX4_whole : MethodName := ⟨RX4, "whole", "()LBreakSetter$Plan;"⟩
def dkwX4_whole_4 : List UInt8 := [167, 0, 4, 3, 4, 182, 0, 74, 42, 180, 0, 18, 176]
abbrev dktX4_whole_4 : List UInt8 := dkwX4_whole_4 ++ []
def dkwX4_whole_3 : List UInt8 := [182, 0, 115, 153, 0, 10, 42, 182, 0, 147, 167, 255, 243, 42, 42, 180, 0, 44, 154, 0, 7, 4]
abbrev dktX4_whole_3 : List UInt8 := dkwX4_whole_3 ++ dktX4_whole_4
def dkwX4_whole_2 : List UInt8 := [182, 0, 98, 42, 18, 141, 182, 0, 115, 153, 0, 10, 42, 182, 0, 142, 167, 255, 243, 42, 18, 145]
abbrev dktX4_whole_2 : List UInt8 := dkwX4_whole_2 ++ dktX4_whole_3
def dkwX4_whole_1 : List UInt8 := [4, 6, 182, 0, 90, 181, 0, 87, 42, 180, 0, 18, 42, 4, 7, 182, 0, 90, 181, 0, 138, 42]
abbrev dktX4_whole_1 : List UInt8 := dkwX4_whole_1 ++ dktX4_whole_2
def dkwX4_whole_0 : List UInt8 := [42, 182, 0, 78, 42, 42, 18, 137, 182, 0, 115, 4, 182, 0, 74, 42, 182, 0, 78, 42, 180, 0, 18, 42]
abbrev dktX4_whole_0 : List UInt8 := dkwX4_whole_0 ++ dktX4_whole_1
theorem dksX4_whole_0 : cX4_whole.data.toList.drop 0 = dktX4_whole_0 := by decide +kernel
theorem dksX4_whole_1 : cX4_whole.data.toList.drop 24 = dktX4_whole_1 := dk_seg dksX4_whole_0 24 rfl rfl
theorem dksX4_whole_2 : cX4_whole.data.toList.drop 46 = dktX4_whole_2 := dk_seg dksX4_whole_1 22 rfl rfl
theorem dksX4_whole_3 : cX4_whole.data.toList.drop 68 = dktX4_whole_3 := dk_seg dksX4_whole_2 22 rfl rfl
theorem dksX4_whole_4 : cX4_whole.data.toList.drop 90 = dktX4_whole_4 := dk_seg dksX4_whole_3 22 rfl rfl
theorem dX4_whole_0 : decode cX4_whole 0 = .ok (.aload_n 0, 1) := dk_42 (dk_at dksX4_whole_0 0 rfl rfl)
theorem dX4_whole_1 : decode cX4_whole 1 = .ok (.invokevirtual 78, 3) := dk_182 0 78 (dk_at dksX4_whole_0 1 rfl rfl)
theorem dX4_whole_4 : decode cX4_whole 4 = .ok (.aload_n 0, 1) := dk_42 (dk_at dksX4_whole_0 4 rfl rfl)
theorem dX4_whole_5 : decode cX4_whole 5 = .ok (.aload_n 0, 1) := dk_42 (dk_at dksX4_whole_0 5 rfl rfl)
theorem dX4_whole_6 : decode cX4_whole 6 = .ok (.ldc 137, 2) := dk_18 137 (dk_at dksX4_whole_0 6 rfl rfl)
theorem dX4_whole_8 : decode cX4_whole 8 = .ok (.invokevirtual 115, 3) := dk_182 0 115 (dk_at dksX4_whole_0 8 rfl rfl)
theorem dX4_whole_11 : decode cX4_whole 11 = .ok (.iconst 1, 1) := dk_4 (dk_at dksX4_whole_0 11 rfl rfl)
theorem dX4_whole_12 : decode cX4_whole 12 = .ok (.invokevirtual 74, 3) := dk_182 0 74 (dk_at dksX4_whole_0 12 rfl rfl)
theorem dX4_whole_15 : decode cX4_whole 15 = .ok (.aload_n 0, 1) := dk_42 (dk_at dksX4_whole_0 15 rfl rfl)
theorem dX4_whole_16 : decode cX4_whole 16 = .ok (.invokevirtual 78, 3) := dk_182 0 78 (dk_at dksX4_whole_0 16 rfl rfl)
theorem dX4_whole_19 : decode cX4_whole 19 = .ok (.aload_n 0, 1) := dk_42 (dk_at dksX4_whole_0 19 rfl rfl)
theorem dX4_whole_20 : decode cX4_whole 20 = .ok (.getfield 18, 3) := dk_180 0 18 (dk_at dksX4_whole_0 20 rfl rfl)
theorem dX4_whole_23 : decode cX4_whole 23 = .ok (.aload_n 0, 1) := dk_42 (dk_at dksX4_whole_0 23 rfl rfl)
theorem dX4_whole_24 : decode cX4_whole 24 = .ok (.iconst 1, 1) := dk_4 (dk_at dksX4_whole_1 0 rfl rfl)
theorem dX4_whole_25 : decode cX4_whole 25 = .ok (.iconst 3, 1) := dk_6 (dk_at dksX4_whole_1 1 rfl rfl)
theorem dX4_whole_26 : decode cX4_whole 26 = .ok (.invokevirtual 90, 3) := dk_182 0 90 (dk_at dksX4_whole_1 2 rfl rfl)
theorem dX4_whole_29 : decode cX4_whole 29 = .ok (.putfield 87, 3) := dk_181 0 87 (dk_at dksX4_whole_1 5 rfl rfl)
theorem dX4_whole_32 : decode cX4_whole 32 = .ok (.aload_n 0, 1) := dk_42 (dk_at dksX4_whole_1 8 rfl rfl)
theorem dX4_whole_33 : decode cX4_whole 33 = .ok (.getfield 18, 3) := dk_180 0 18 (dk_at dksX4_whole_1 9 rfl rfl)
theorem dX4_whole_36 : decode cX4_whole 36 = .ok (.aload_n 0, 1) := dk_42 (dk_at dksX4_whole_1 12 rfl rfl)
theorem dX4_whole_37 : decode cX4_whole 37 = .ok (.iconst 1, 1) := dk_4 (dk_at dksX4_whole_1 13 rfl rfl)
theorem dX4_whole_38 : decode cX4_whole 38 = .ok (.iconst 4, 1) := dk_7 (dk_at dksX4_whole_1 14 rfl rfl)
theorem dX4_whole_39 : decode cX4_whole 39 = .ok (.invokevirtual 90, 3) := dk_182 0 90 (dk_at dksX4_whole_1 15 rfl rfl)
theorem dX4_whole_42 : decode cX4_whole 42 = .ok (.putfield 138, 3) := dk_181 0 138 (dk_at dksX4_whole_1 18 rfl rfl)
theorem dX4_whole_45 : decode cX4_whole 45 = .ok (.aload_n 0, 1) := dk_42 (dk_at dksX4_whole_1 21 rfl rfl)
theorem dX4_whole_46 : decode cX4_whole 46 = .ok (.invokevirtual 98, 3) := dk_182 0 98 (dk_at dksX4_whole_2 0 rfl rfl)
theorem dX4_whole_49 : decode cX4_whole 49 = .ok (.aload_n 0, 1) := dk_42 (dk_at dksX4_whole_2 3 rfl rfl)
theorem dX4_whole_50 : decode cX4_whole 50 = .ok (.ldc 141, 2) := dk_18 141 (dk_at dksX4_whole_2 4 rfl rfl)
theorem dX4_whole_52 : decode cX4_whole 52 = .ok (.invokevirtual 115, 3) := dk_182 0 115 (dk_at dksX4_whole_2 6 rfl rfl)
theorem dX4_whole_55 : decode cX4_whole 55 = .ok (.ifCond .eq 10, 3) := dk_153 0 10 (dk_at dksX4_whole_2 9 rfl rfl)
theorem dX4_whole_58 : decode cX4_whole 58 = .ok (.aload_n 0, 1) := dk_42 (dk_at dksX4_whole_2 12 rfl rfl)
theorem dX4_whole_59 : decode cX4_whole 59 = .ok (.invokevirtual 142, 3) := dk_182 0 142 (dk_at dksX4_whole_2 13 rfl rfl)
theorem dX4_whole_62 : decode cX4_whole 62 = .ok (.goto (-13), 3) := dk_167 255 243 (dk_at dksX4_whole_2 16 rfl rfl)
theorem dX4_whole_65 : decode cX4_whole 65 = .ok (.aload_n 0, 1) := dk_42 (dk_at dksX4_whole_2 19 rfl rfl)
theorem dX4_whole_66 : decode cX4_whole 66 = .ok (.ldc 145, 2) := dk_18 145 (dk_at dksX4_whole_2 20 rfl rfl)
theorem dX4_whole_68 : decode cX4_whole 68 = .ok (.invokevirtual 115, 3) := dk_182 0 115 (dk_at dksX4_whole_3 0 rfl rfl)
theorem dX4_whole_71 : decode cX4_whole 71 = .ok (.ifCond .eq 10, 3) := dk_153 0 10 (dk_at dksX4_whole_3 3 rfl rfl)
theorem dX4_whole_74 : decode cX4_whole 74 = .ok (.aload_n 0, 1) := dk_42 (dk_at dksX4_whole_3 6 rfl rfl)
theorem dX4_whole_75 : decode cX4_whole 75 = .ok (.invokevirtual 147, 3) := dk_182 0 147 (dk_at dksX4_whole_3 7 rfl rfl)
theorem dX4_whole_78 : decode cX4_whole 78 = .ok (.goto (-13), 3) := dk_167 255 243 (dk_at dksX4_whole_3 10 rfl rfl)
theorem dX4_whole_81 : decode cX4_whole 81 = .ok (.aload_n 0, 1) := dk_42 (dk_at dksX4_whole_3 13 rfl rfl)
theorem dX4_whole_82 : decode cX4_whole 82 = .ok (.aload_n 0, 1) := dk_42 (dk_at dksX4_whole_3 14 rfl rfl)
theorem dX4_whole_83 : decode cX4_whole 83 = .ok (.getfield 44, 3) := dk_180 0 44 (dk_at dksX4_whole_3 15 rfl rfl)
theorem dX4_whole_86 : decode cX4_whole 86 = .ok (.ifCond .ne 7, 3) := dk_154 0 7 (dk_at dksX4_whole_3 18 rfl rfl)
theorem dX4_whole_89 : decode cX4_whole 89 = .ok (.iconst 1, 1) := dk_4 (dk_at dksX4_whole_3 21 rfl rfl)
theorem dX4_whole_90 : decode cX4_whole 90 = .ok (.goto 4, 3) := dk_167 0 4 (dk_at dksX4_whole_4 0 rfl rfl)
theorem dX4_whole_93 : decode cX4_whole 93 = .ok (.iconst 0, 1) := dk_3 (dk_at dksX4_whole_4 3 rfl rfl)
theorem dX4_whole_94 : decode cX4_whole 94 = .ok (.iconst 1, 1) := dk_4 (dk_at dksX4_whole_4 4 rfl rfl)
theorem dX4_whole_95 : decode cX4_whole 95 = .ok (.invokevirtual 74, 3) := dk_182 0 74 (dk_at dksX4_whole_4 5 rfl rfl)
theorem dX4_whole_98 : decode cX4_whole 98 = .ok (.aload_n 0, 1) := dk_42 (dk_at dksX4_whole_4 8 rfl rfl)
theorem dX4_whole_99 : decode cX4_whole 99 = .ok (.getfield 18, 3) := dk_180 0 18 (dk_at dksX4_whole_4 9 rfl rfl)
theorem dX4_whole_102 : decode cX4_whole 102 = .ok (.areturn, 1) := dk_176 (dk_at dksX4_whole_4 12 rfl rfl)
abbrev cX4_next : ByteArray := prog_5_method_5_code
def yX4_next : MethodName := ⟨RX4, "next", "()V"⟩
def dkwX4_next_6 : List UInt8 := [181, 0, 22, 177]
abbrev dktX4_next_6 : List UInt8 := dkwX4_next_6 ++ []
def dkwX4_next_5 : List UInt8 := [182, 0, 33, 16, 59, 160, 0, 7, 6, 167, 0, 4, 7, 181, 0, 44, 42, 89, 180, 0, 22, 4, 96]
abbrev dktX4_next_5 : List UInt8 := dkwX4_next_5 ++ dktX4_next_6
def dkwX4_next_4 : List UInt8 := [182, 0, 47, 154, 0, 10, 42, 182, 0, 51, 153, 0, 10, 42, 182, 0, 54, 167, 0, 31, 42, 42]
abbrev dktX4_next_4 : List UInt8 := dkwX4_next_4 ++ dktX4_next_5
def dkwX4_next_3 : List UInt8 := [7, 181, 0, 44, 167, 0, 68, 42, 182, 0, 33, 2, 160, 0, 11, 42, 3, 181, 0, 44, 167, 0, 52, 42]
abbrev dktX4_next_3 : List UInt8 := dkwX4_next_3 ++ dktX4_next_4
def dkwX4_next_2 : List UInt8 := [161, 0, 31, 42, 180, 0, 3, 180, 0, 26, 17, 2, 88, 164, 0, 18, 42, 17, 2, 88, 181, 0, 41, 42]
abbrev dktX4_next_2 : List UInt8 := dkwX4_next_2 ++ dktX4_next_3
def dkwX4_next_1 : List UInt8 := [96, 181, 0, 22, 167, 255, 228, 42, 42, 180, 0, 22, 181, 0, 41, 42, 180, 0, 22, 17, 2, 88]
abbrev dktX4_next_1 : List UInt8 := dkwX4_next_1 ++ dktX4_next_2
def dkwX4_next_0 : List UInt8 := [42, 182, 0, 33, 16, 32, 159, 0, 12, 42, 182, 0, 33, 16, 10, 160, 0, 16, 42, 89, 180, 0, 22, 4]
abbrev dktX4_next_0 : List UInt8 := dkwX4_next_0 ++ dktX4_next_1
theorem dksX4_next_0 : cX4_next.data.toList.drop 0 = dktX4_next_0 := by decide +kernel
theorem dksX4_next_1 : cX4_next.data.toList.drop 24 = dktX4_next_1 := dk_seg dksX4_next_0 24 rfl rfl
theorem dksX4_next_2 : cX4_next.data.toList.drop 46 = dktX4_next_2 := dk_seg dksX4_next_1 22 rfl rfl
theorem dksX4_next_3 : cX4_next.data.toList.drop 70 = dktX4_next_3 := dk_seg dksX4_next_2 24 rfl rfl
theorem dksX4_next_4 : cX4_next.data.toList.drop 94 = dktX4_next_4 := dk_seg dksX4_next_3 24 rfl rfl
theorem dksX4_next_5 : cX4_next.data.toList.drop 116 = dktX4_next_5 := dk_seg dksX4_next_4 22 rfl rfl
theorem dksX4_next_6 : cX4_next.data.toList.drop 139 = dktX4_next_6 := dk_seg dksX4_next_5 23 rfl rfl
theorem dX4_next_0 : decode cX4_next 0 = .ok (.aload_n 0, 1) := dk_42 (dk_at dksX4_next_0 0 rfl rfl)
theorem dX4_next_1 : decode cX4_next 1 = .ok (.invokevirtual 33, 3) := dk_182 0 33 (dk_at dksX4_next_0 1 rfl rfl)
theorem dX4_next_4 : decode cX4_next 4 = .ok (.bipush 32, 2) := dk_16 32 (dk_at dksX4_next_0 4 rfl rfl)
theorem dX4_next_6 : decode cX4_next 6 = .ok (.if_icmp .eq 12, 3) := dk_159 0 12 (dk_at dksX4_next_0 6 rfl rfl)
theorem dX4_next_9 : decode cX4_next 9 = .ok (.aload_n 0, 1) := dk_42 (dk_at dksX4_next_0 9 rfl rfl)
theorem dX4_next_10 : decode cX4_next 10 = .ok (.invokevirtual 33, 3) := dk_182 0 33 (dk_at dksX4_next_0 10 rfl rfl)
theorem dX4_next_13 : decode cX4_next 13 = .ok (.bipush 10, 2) := dk_16 10 (dk_at dksX4_next_0 13 rfl rfl)
theorem dX4_next_15 : decode cX4_next 15 = .ok (.if_icmp .ne 16, 3) := dk_160 0 16 (dk_at dksX4_next_0 15 rfl rfl)
theorem dX4_next_18 : decode cX4_next 18 = .ok (.aload_n 0, 1) := dk_42 (dk_at dksX4_next_0 18 rfl rfl)
theorem dX4_next_19 : decode cX4_next 19 = .ok (.dup, 1) := dk_89 (dk_at dksX4_next_0 19 rfl rfl)
theorem dX4_next_20 : decode cX4_next 20 = .ok (.getfield 22, 3) := dk_180 0 22 (dk_at dksX4_next_0 20 rfl rfl)
theorem dX4_next_23 : decode cX4_next 23 = .ok (.iconst 1, 1) := dk_4 (dk_at dksX4_next_0 23 rfl rfl)
theorem dX4_next_24 : decode cX4_next 24 = .ok (.iadd, 1) := dk_96 (dk_at dksX4_next_1 0 rfl rfl)
theorem dX4_next_25 : decode cX4_next 25 = .ok (.putfield 22, 3) := dk_181 0 22 (dk_at dksX4_next_1 1 rfl rfl)
theorem dX4_next_28 : decode cX4_next 28 = .ok (.goto (-28), 3) := dk_167 255 228 (dk_at dksX4_next_1 4 rfl rfl)
theorem dX4_next_31 : decode cX4_next 31 = .ok (.aload_n 0, 1) := dk_42 (dk_at dksX4_next_1 7 rfl rfl)
theorem dX4_next_32 : decode cX4_next 32 = .ok (.aload_n 0, 1) := dk_42 (dk_at dksX4_next_1 8 rfl rfl)
theorem dX4_next_33 : decode cX4_next 33 = .ok (.getfield 22, 3) := dk_180 0 22 (dk_at dksX4_next_1 9 rfl rfl)
theorem dX4_next_36 : decode cX4_next 36 = .ok (.putfield 41, 3) := dk_181 0 41 (dk_at dksX4_next_1 12 rfl rfl)
theorem dX4_next_39 : decode cX4_next 39 = .ok (.aload_n 0, 1) := dk_42 (dk_at dksX4_next_1 15 rfl rfl)
theorem dX4_next_40 : decode cX4_next 40 = .ok (.getfield 22, 3) := dk_180 0 22 (dk_at dksX4_next_1 16 rfl rfl)
theorem dX4_next_43 : decode cX4_next 43 = .ok (.sipush 600, 3) := dk_17 2 88 (dk_at dksX4_next_1 19 rfl rfl)
theorem dX4_next_46 : decode cX4_next 46 = .ok (.if_icmp .lt 31, 3) := dk_161 0 31 (dk_at dksX4_next_2 0 rfl rfl)
theorem dX4_next_49 : decode cX4_next 49 = .ok (.aload_n 0, 1) := dk_42 (dk_at dksX4_next_2 3 rfl rfl)
theorem dX4_next_50 : decode cX4_next 50 = .ok (.getfield 3, 3) := dk_180 0 3 (dk_at dksX4_next_2 4 rfl rfl)
theorem dX4_next_53 : decode cX4_next 53 = .ok (.getfield 26, 3) := dk_180 0 26 (dk_at dksX4_next_2 7 rfl rfl)
theorem dX4_next_56 : decode cX4_next 56 = .ok (.sipush 600, 3) := dk_17 2 88 (dk_at dksX4_next_2 10 rfl rfl)
theorem dX4_next_59 : decode cX4_next 59 = .ok (.if_icmp .le 18, 3) := dk_164 0 18 (dk_at dksX4_next_2 13 rfl rfl)
theorem dX4_next_62 : decode cX4_next 62 = .ok (.aload_n 0, 1) := dk_42 (dk_at dksX4_next_2 16 rfl rfl)
theorem dX4_next_63 : decode cX4_next 63 = .ok (.sipush 600, 3) := dk_17 2 88 (dk_at dksX4_next_2 17 rfl rfl)
theorem dX4_next_66 : decode cX4_next 66 = .ok (.putfield 41, 3) := dk_181 0 41 (dk_at dksX4_next_2 20 rfl rfl)
theorem dX4_next_69 : decode cX4_next 69 = .ok (.aload_n 0, 1) := dk_42 (dk_at dksX4_next_2 23 rfl rfl)
theorem dX4_next_70 : decode cX4_next 70 = .ok (.iconst 4, 1) := dk_7 (dk_at dksX4_next_3 0 rfl rfl)
theorem dX4_next_71 : decode cX4_next 71 = .ok (.putfield 44, 3) := dk_181 0 44 (dk_at dksX4_next_3 1 rfl rfl)
theorem dX4_next_74 : decode cX4_next 74 = .ok (.goto 68, 3) := dk_167 0 68 (dk_at dksX4_next_3 4 rfl rfl)
theorem dX4_next_77 : decode cX4_next 77 = .ok (.aload_n 0, 1) := dk_42 (dk_at dksX4_next_3 7 rfl rfl)
theorem dX4_next_78 : decode cX4_next 78 = .ok (.invokevirtual 33, 3) := dk_182 0 33 (dk_at dksX4_next_3 8 rfl rfl)
theorem dX4_next_81 : decode cX4_next 81 = .ok (.iconst (-1), 1) := dk_2 (dk_at dksX4_next_3 11 rfl rfl)
theorem dX4_next_82 : decode cX4_next 82 = .ok (.if_icmp .ne 11, 3) := dk_160 0 11 (dk_at dksX4_next_3 12 rfl rfl)
theorem dX4_next_85 : decode cX4_next 85 = .ok (.aload_n 0, 1) := dk_42 (dk_at dksX4_next_3 15 rfl rfl)
theorem dX4_next_86 : decode cX4_next 86 = .ok (.iconst 0, 1) := dk_3 (dk_at dksX4_next_3 16 rfl rfl)
theorem dX4_next_87 : decode cX4_next 87 = .ok (.putfield 44, 3) := dk_181 0 44 (dk_at dksX4_next_3 17 rfl rfl)
theorem dX4_next_90 : decode cX4_next 90 = .ok (.goto 52, 3) := dk_167 0 52 (dk_at dksX4_next_3 20 rfl rfl)
theorem dX4_next_93 : decode cX4_next 93 = .ok (.aload_n 0, 1) := dk_42 (dk_at dksX4_next_3 23 rfl rfl)
theorem dX4_next_94 : decode cX4_next 94 = .ok (.invokevirtual 47, 3) := dk_182 0 47 (dk_at dksX4_next_4 0 rfl rfl)
theorem dX4_next_97 : decode cX4_next 97 = .ok (.ifCond .ne 10, 3) := dk_154 0 10 (dk_at dksX4_next_4 3 rfl rfl)
theorem dX4_next_100 : decode cX4_next 100 = .ok (.aload_n 0, 1) := dk_42 (dk_at dksX4_next_4 6 rfl rfl)
theorem dX4_next_101 : decode cX4_next 101 = .ok (.invokevirtual 51, 3) := dk_182 0 51 (dk_at dksX4_next_4 7 rfl rfl)
theorem dX4_next_104 : decode cX4_next 104 = .ok (.ifCond .eq 10, 3) := dk_153 0 10 (dk_at dksX4_next_4 10 rfl rfl)
theorem dX4_next_107 : decode cX4_next 107 = .ok (.aload_n 0, 1) := dk_42 (dk_at dksX4_next_4 13 rfl rfl)
theorem dX4_next_108 : decode cX4_next 108 = .ok (.invokevirtual 54, 3) := dk_182 0 54 (dk_at dksX4_next_4 14 rfl rfl)
theorem dX4_next_111 : decode cX4_next 111 = .ok (.goto 31, 3) := dk_167 0 31 (dk_at dksX4_next_4 17 rfl rfl)
theorem dX4_next_114 : decode cX4_next 114 = .ok (.aload_n 0, 1) := dk_42 (dk_at dksX4_next_4 20 rfl rfl)
theorem dX4_next_115 : decode cX4_next 115 = .ok (.aload_n 0, 1) := dk_42 (dk_at dksX4_next_4 21 rfl rfl)
theorem dX4_next_116 : decode cX4_next 116 = .ok (.invokevirtual 33, 3) := dk_182 0 33 (dk_at dksX4_next_5 0 rfl rfl)
theorem dX4_next_119 : decode cX4_next 119 = .ok (.bipush 59, 2) := dk_16 59 (dk_at dksX4_next_5 3 rfl rfl)
theorem dX4_next_121 : decode cX4_next 121 = .ok (.if_icmp .ne 7, 3) := dk_160 0 7 (dk_at dksX4_next_5 5 rfl rfl)
theorem dX4_next_124 : decode cX4_next 124 = .ok (.iconst 3, 1) := dk_6 (dk_at dksX4_next_5 8 rfl rfl)
theorem dX4_next_125 : decode cX4_next 125 = .ok (.goto 4, 3) := dk_167 0 4 (dk_at dksX4_next_5 9 rfl rfl)
theorem dX4_next_128 : decode cX4_next 128 = .ok (.iconst 4, 1) := dk_7 (dk_at dksX4_next_5 12 rfl rfl)
theorem dX4_next_129 : decode cX4_next 129 = .ok (.putfield 44, 3) := dk_181 0 44 (dk_at dksX4_next_5 13 rfl rfl)
theorem dX4_next_132 : decode cX4_next 132 = .ok (.aload_n 0, 1) := dk_42 (dk_at dksX4_next_5 16 rfl rfl)
theorem dX4_next_133 : decode cX4_next 133 = .ok (.dup, 1) := dk_89 (dk_at dksX4_next_5 17 rfl rfl)
theorem dX4_next_134 : decode cX4_next 134 = .ok (.getfield 22, 3) := dk_180 0 22 (dk_at dksX4_next_5 18 rfl rfl)
theorem dX4_next_137 : decode cX4_next 137 = .ok (.iconst 1, 1) := dk_4 (dk_at dksX4_next_5 21 rfl rfl)
theorem dX4_next_138 : decode cX4_next 138 = .ok (.iadd, 1) := dk_96 (dk_at dksX4_next_5 22 rfl rfl)
theorem dX4_next_139 : decode cX4_next 139 = .ok (.putfield 22, 3) := dk_181 0 22 (dk_at dksX4_next_6 0 rfl rfl)
theorem dX4_next_142 : decode cX4_next 142 = .ok (.return_, 1) := dk_177 (dk_at dksX4_next_6 3 rfl rfl)
abbrev cX4_peek : ByteArray := prog_5_method_2_code
def yX4_peek : MethodName := ⟨RX4, "peek", "()I"⟩
def dkwX4_peek_1 : List UInt8 := [180, 0, 22, 51, 17, 0, 255, 126, 167, 0, 4, 2, 172]
abbrev dktX4_peek_1 : List UInt8 := dkwX4_peek_1 ++ []
def dkwX4_peek_0 : List UInt8 := [42, 180, 0, 22, 42, 180, 0, 3, 180, 0, 26, 162, 0, 22, 42, 180, 0, 3, 180, 0, 29, 42]
abbrev dktX4_peek_0 : List UInt8 := dkwX4_peek_0 ++ dktX4_peek_1
theorem dksX4_peek_0 : cX4_peek.data.toList.drop 0 = dktX4_peek_0 := by decide +kernel
theorem dksX4_peek_1 : cX4_peek.data.toList.drop 22 = dktX4_peek_1 := dk_seg dksX4_peek_0 22 rfl rfl
theorem dX4_peek_0 : decode cX4_peek 0 = .ok (.aload_n 0, 1) := dk_42 (dk_at dksX4_peek_0 0 rfl rfl)
theorem dX4_peek_1 : decode cX4_peek 1 = .ok (.getfield 22, 3) := dk_180 0 22 (dk_at dksX4_peek_0 1 rfl rfl)
theorem dX4_peek_4 : decode cX4_peek 4 = .ok (.aload_n 0, 1) := dk_42 (dk_at dksX4_peek_0 4 rfl rfl)
theorem dX4_peek_5 : decode cX4_peek 5 = .ok (.getfield 3, 3) := dk_180 0 3 (dk_at dksX4_peek_0 5 rfl rfl)
theorem dX4_peek_8 : decode cX4_peek 8 = .ok (.getfield 26, 3) := dk_180 0 26 (dk_at dksX4_peek_0 8 rfl rfl)
theorem dX4_peek_11 : decode cX4_peek 11 = .ok (.if_icmp .ge 22, 3) := dk_162 0 22 (dk_at dksX4_peek_0 11 rfl rfl)
theorem dX4_peek_14 : decode cX4_peek 14 = .ok (.aload_n 0, 1) := dk_42 (dk_at dksX4_peek_0 14 rfl rfl)
theorem dX4_peek_15 : decode cX4_peek 15 = .ok (.getfield 3, 3) := dk_180 0 3 (dk_at dksX4_peek_0 15 rfl rfl)
theorem dX4_peek_18 : decode cX4_peek 18 = .ok (.getfield 29, 3) := dk_180 0 29 (dk_at dksX4_peek_0 18 rfl rfl)
theorem dX4_peek_21 : decode cX4_peek 21 = .ok (.aload_n 0, 1) := dk_42 (dk_at dksX4_peek_0 21 rfl rfl)
theorem dX4_peek_22 : decode cX4_peek 22 = .ok (.getfield 22, 3) := dk_180 0 22 (dk_at dksX4_peek_1 0 rfl rfl)
theorem dX4_peek_25 : decode cX4_peek 25 = .ok (.baload, 1) := dk_51 (dk_at dksX4_peek_1 3 rfl rfl)
theorem dX4_peek_26 : decode cX4_peek 26 = .ok (.sipush 255, 3) := dk_17 0 255 (dk_at dksX4_peek_1 4 rfl rfl)
theorem dX4_peek_29 : decode cX4_peek 29 = .ok (.iand, 1) := dk_126 (dk_at dksX4_peek_1 7 rfl rfl)
theorem dX4_peek_30 : decode cX4_peek 30 = .ok (.goto 4, 3) := dk_167 0 4 (dk_at dksX4_peek_1 8 rfl rfl)
theorem dX4_peek_33 : decode cX4_peek 33 = .ok (.iconst (-1), 1) := dk_2 (dk_at dksX4_peek_1 11 rfl rfl)
theorem dX4_peek_34 : decode cX4_peek 34 = .ok (.ireturn, 1) := dk_172 (dk_at dksX4_peek_1 12 rfl rfl)
abbrev cX4_isSmall : ByteArray := prog_5_method_3_code
def yX4_isSmall : MethodName := ⟨RX4, "isSmall", "()Z"⟩
def dkwX4_isSmall_0 : List UInt8 := [42, 182, 0, 33, 16, 97, 16, 122, 184, 0, 37, 172]
abbrev dktX4_isSmall_0 : List UInt8 := dkwX4_isSmall_0 ++ []
theorem dksX4_isSmall_0 : cX4_isSmall.data.toList.drop 0 = dktX4_isSmall_0 := by decide +kernel
theorem dX4_isSmall_0 : decode cX4_isSmall 0 = .ok (.aload_n 0, 1) := dk_42 (dk_at dksX4_isSmall_0 0 rfl rfl)
theorem dX4_isSmall_1 : decode cX4_isSmall 1 = .ok (.invokevirtual 33, 3) := dk_182 0 33 (dk_at dksX4_isSmall_0 1 rfl rfl)
theorem dX4_isSmall_4 : decode cX4_isSmall 4 = .ok (.bipush 97, 2) := dk_16 97 (dk_at dksX4_isSmall_0 4 rfl rfl)
theorem dX4_isSmall_6 : decode cX4_isSmall 6 = .ok (.bipush 122, 2) := dk_16 122 (dk_at dksX4_isSmall_0 6 rfl rfl)
theorem dX4_isSmall_8 : decode cX4_isSmall 8 = .ok (.invokestatic 37, 3) := dk_184 0 37 (dk_at dksX4_isSmall_0 8 rfl rfl)
theorem dX4_isSmall_11 : decode cX4_isSmall 11 = .ok (.ireturn, 1) := dk_172 (dk_at dksX4_isSmall_0 11 rfl rfl)
abbrev cX4_isDigit : ByteArray := prog_5_method_4_code
def yX4_isDigit : MethodName := ⟨RX4, "isDigit", "()Z"⟩
def dkwX4_isDigit_0 : List UInt8 := [42, 182, 0, 33, 16, 48, 16, 57, 184, 0, 37, 172]
abbrev dktX4_isDigit_0 : List UInt8 := dkwX4_isDigit_0 ++ []
theorem dksX4_isDigit_0 : cX4_isDigit.data.toList.drop 0 = dktX4_isDigit_0 := by decide +kernel
theorem dX4_isDigit_0 : decode cX4_isDigit 0 = .ok (.aload_n 0, 1) := dk_42 (dk_at dksX4_isDigit_0 0 rfl rfl)
theorem dX4_isDigit_1 : decode cX4_isDigit 1 = .ok (.invokevirtual 33, 3) := dk_182 0 33 (dk_at dksX4_isDigit_0 1 rfl rfl)
theorem dX4_isDigit_4 : decode cX4_isDigit 4 = .ok (.bipush 48, 2) := dk_16 48 (dk_at dksX4_isDigit_0 4 rfl rfl)
theorem dX4_isDigit_6 : decode cX4_isDigit 6 = .ok (.bipush 57, 2) := dk_16 57 (dk_at dksX4_isDigit_0 6 rfl rfl)
theorem dX4_isDigit_8 : decode cX4_isDigit 8 = .ok (.invokestatic 37, 3) := dk_184 0 37 (dk_at dksX4_isDigit_0 8 rfl rfl)
theorem dX4_isDigit_11 : decode cX4_isDigit 11 = .ok (.ireturn, 1) := dk_172 (dk_at dksX4_isDigit_0 11 rfl rfl)
abbrev cX4_runs : ByteArray := prog_5_method_6_code
def yX4_runs : MethodName := ⟨RX4, "runs", "()V"⟩
def dkwX4_runs_5 : List UInt8 := [177]
abbrev dktX4_runs_5 : List UInt8 := dkwX4_runs_5 ++ []
def dkwX4_runs_4 : List UInt8 := [160, 0, 7, 4, 167, 0, 17, 27, 154, 0, 12, 28, 6, 162, 0, 7, 5, 167, 0, 4, 7, 181, 0, 44]
abbrev dktX4_runs_4 : List UInt8 := dkwX4_runs_4 ++ dktX4_runs_5
def dkwX4_runs_3 : List UInt8 := [180, 0, 22, 4, 96, 181, 0, 22, 167, 255, 186, 42, 180, 0, 22, 42, 180, 0, 41, 100, 61, 42, 27, 28]
abbrev dktX4_runs_3 : List UInt8 := dkwX4_runs_3 ++ dktX4_runs_4
def dkwX4_runs_2 : List UInt8 := [162, 0, 22, 42, 16, 10, 42, 180, 0, 57, 104, 42, 182, 0, 33, 96, 16, 48, 100, 181, 0, 57, 42, 89]
abbrev dktX4_runs_2 : List UInt8 := dkwX4_runs_2 ++ dktX4_runs_3
def dkwX4_runs_1 : List UInt8 := [182, 0, 47, 153, 0, 6, 132, 1, 1, 27, 154, 0, 35, 42, 180, 0, 22, 42, 180, 0, 41, 100, 5]
abbrev dktX4_runs_1 : List UInt8 := dkwX4_runs_1 ++ dktX4_runs_2
def dkwX4_runs_0 : List UInt8 := [3, 60, 42, 3, 181, 0, 57, 42, 182, 0, 47, 154, 0, 10, 42, 182, 0, 51, 153, 0, 62, 42]
abbrev dktX4_runs_0 : List UInt8 := dkwX4_runs_0 ++ dktX4_runs_1
theorem dksX4_runs_0 : cX4_runs.data.toList.drop 0 = dktX4_runs_0 := by decide +kernel
theorem dksX4_runs_1 : cX4_runs.data.toList.drop 22 = dktX4_runs_1 := dk_seg dksX4_runs_0 22 rfl rfl
theorem dksX4_runs_2 : cX4_runs.data.toList.drop 45 = dktX4_runs_2 := dk_seg dksX4_runs_1 23 rfl rfl
theorem dksX4_runs_3 : cX4_runs.data.toList.drop 69 = dktX4_runs_3 := dk_seg dksX4_runs_2 24 rfl rfl
theorem dksX4_runs_4 : cX4_runs.data.toList.drop 93 = dktX4_runs_4 := dk_seg dksX4_runs_3 24 rfl rfl
theorem dksX4_runs_5 : cX4_runs.data.toList.drop 117 = dktX4_runs_5 := dk_seg dksX4_runs_4 24 rfl rfl
theorem dX4_runs_0 : decode cX4_runs 0 = .ok (.iconst 0, 1) := dk_3 (dk_at dksX4_runs_0 0 rfl rfl)
theorem dX4_runs_1 : decode cX4_runs 1 = .ok (.istore_n 1, 1) := dk_60 (dk_at dksX4_runs_0 1 rfl rfl)
theorem dX4_runs_2 : decode cX4_runs 2 = .ok (.aload_n 0, 1) := dk_42 (dk_at dksX4_runs_0 2 rfl rfl)
theorem dX4_runs_3 : decode cX4_runs 3 = .ok (.iconst 0, 1) := dk_3 (dk_at dksX4_runs_0 3 rfl rfl)
theorem dX4_runs_4 : decode cX4_runs 4 = .ok (.putfield 57, 3) := dk_181 0 57 (dk_at dksX4_runs_0 4 rfl rfl)
theorem dX4_runs_7 : decode cX4_runs 7 = .ok (.aload_n 0, 1) := dk_42 (dk_at dksX4_runs_0 7 rfl rfl)
theorem dX4_runs_8 : decode cX4_runs 8 = .ok (.invokevirtual 47, 3) := dk_182 0 47 (dk_at dksX4_runs_0 8 rfl rfl)
theorem dX4_runs_11 : decode cX4_runs 11 = .ok (.ifCond .ne 10, 3) := dk_154 0 10 (dk_at dksX4_runs_0 11 rfl rfl)
theorem dX4_runs_14 : decode cX4_runs 14 = .ok (.aload_n 0, 1) := dk_42 (dk_at dksX4_runs_0 14 rfl rfl)
theorem dX4_runs_15 : decode cX4_runs 15 = .ok (.invokevirtual 51, 3) := dk_182 0 51 (dk_at dksX4_runs_0 15 rfl rfl)
theorem dX4_runs_18 : decode cX4_runs 18 = .ok (.ifCond .eq 62, 3) := dk_153 0 62 (dk_at dksX4_runs_0 18 rfl rfl)
theorem dX4_runs_21 : decode cX4_runs 21 = .ok (.aload_n 0, 1) := dk_42 (dk_at dksX4_runs_0 21 rfl rfl)
theorem dX4_runs_22 : decode cX4_runs 22 = .ok (.invokevirtual 47, 3) := dk_182 0 47 (dk_at dksX4_runs_1 0 rfl rfl)
theorem dX4_runs_25 : decode cX4_runs 25 = .ok (.ifCond .eq 6, 3) := dk_153 0 6 (dk_at dksX4_runs_1 3 rfl rfl)
theorem dX4_runs_28 : decode cX4_runs 28 = .ok (.iinc 1 1, 3) := dk_132 1 1 (dk_at dksX4_runs_1 6 rfl rfl)
theorem dX4_runs_31 : decode cX4_runs 31 = .ok (.iload_n 1, 1) := dk_27 (dk_at dksX4_runs_1 9 rfl rfl)
theorem dX4_runs_32 : decode cX4_runs 32 = .ok (.ifCond .ne 35, 3) := dk_154 0 35 (dk_at dksX4_runs_1 10 rfl rfl)
theorem dX4_runs_35 : decode cX4_runs 35 = .ok (.aload_n 0, 1) := dk_42 (dk_at dksX4_runs_1 13 rfl rfl)
theorem dX4_runs_36 : decode cX4_runs 36 = .ok (.getfield 22, 3) := dk_180 0 22 (dk_at dksX4_runs_1 14 rfl rfl)
theorem dX4_runs_39 : decode cX4_runs 39 = .ok (.aload_n 0, 1) := dk_42 (dk_at dksX4_runs_1 17 rfl rfl)
theorem dX4_runs_40 : decode cX4_runs 40 = .ok (.getfield 41, 3) := dk_180 0 41 (dk_at dksX4_runs_1 18 rfl rfl)
theorem dX4_runs_43 : decode cX4_runs 43 = .ok (.isub, 1) := dk_100 (dk_at dksX4_runs_1 21 rfl rfl)
theorem dX4_runs_44 : decode cX4_runs 44 = .ok (.iconst 2, 1) := dk_5 (dk_at dksX4_runs_1 22 rfl rfl)
theorem dX4_runs_45 : decode cX4_runs 45 = .ok (.if_icmp .ge 22, 3) := dk_162 0 22 (dk_at dksX4_runs_2 0 rfl rfl)
theorem dX4_runs_48 : decode cX4_runs 48 = .ok (.aload_n 0, 1) := dk_42 (dk_at dksX4_runs_2 3 rfl rfl)
theorem dX4_runs_49 : decode cX4_runs 49 = .ok (.bipush 10, 2) := dk_16 10 (dk_at dksX4_runs_2 4 rfl rfl)
theorem dX4_runs_51 : decode cX4_runs 51 = .ok (.aload_n 0, 1) := dk_42 (dk_at dksX4_runs_2 6 rfl rfl)
theorem dX4_runs_52 : decode cX4_runs 52 = .ok (.getfield 57, 3) := dk_180 0 57 (dk_at dksX4_runs_2 7 rfl rfl)
theorem dX4_runs_55 : decode cX4_runs 55 = .ok (.imul, 1) := dk_104 (dk_at dksX4_runs_2 10 rfl rfl)
theorem dX4_runs_56 : decode cX4_runs 56 = .ok (.aload_n 0, 1) := dk_42 (dk_at dksX4_runs_2 11 rfl rfl)
theorem dX4_runs_57 : decode cX4_runs 57 = .ok (.invokevirtual 33, 3) := dk_182 0 33 (dk_at dksX4_runs_2 12 rfl rfl)
theorem dX4_runs_60 : decode cX4_runs 60 = .ok (.iadd, 1) := dk_96 (dk_at dksX4_runs_2 15 rfl rfl)
theorem dX4_runs_61 : decode cX4_runs 61 = .ok (.bipush 48, 2) := dk_16 48 (dk_at dksX4_runs_2 16 rfl rfl)
theorem dX4_runs_63 : decode cX4_runs 63 = .ok (.isub, 1) := dk_100 (dk_at dksX4_runs_2 18 rfl rfl)
theorem dX4_runs_64 : decode cX4_runs 64 = .ok (.putfield 57, 3) := dk_181 0 57 (dk_at dksX4_runs_2 19 rfl rfl)
theorem dX4_runs_67 : decode cX4_runs 67 = .ok (.aload_n 0, 1) := dk_42 (dk_at dksX4_runs_2 22 rfl rfl)
theorem dX4_runs_68 : decode cX4_runs 68 = .ok (.dup, 1) := dk_89 (dk_at dksX4_runs_2 23 rfl rfl)
theorem dX4_runs_69 : decode cX4_runs 69 = .ok (.getfield 22, 3) := dk_180 0 22 (dk_at dksX4_runs_3 0 rfl rfl)
theorem dX4_runs_72 : decode cX4_runs 72 = .ok (.iconst 1, 1) := dk_4 (dk_at dksX4_runs_3 3 rfl rfl)
theorem dX4_runs_73 : decode cX4_runs 73 = .ok (.iadd, 1) := dk_96 (dk_at dksX4_runs_3 4 rfl rfl)
theorem dX4_runs_74 : decode cX4_runs 74 = .ok (.putfield 22, 3) := dk_181 0 22 (dk_at dksX4_runs_3 5 rfl rfl)
theorem dX4_runs_77 : decode cX4_runs 77 = .ok (.goto (-70), 3) := dk_167 255 186 (dk_at dksX4_runs_3 8 rfl rfl)
theorem dX4_runs_80 : decode cX4_runs 80 = .ok (.aload_n 0, 1) := dk_42 (dk_at dksX4_runs_3 11 rfl rfl)
theorem dX4_runs_81 : decode cX4_runs 81 = .ok (.getfield 22, 3) := dk_180 0 22 (dk_at dksX4_runs_3 12 rfl rfl)
theorem dX4_runs_84 : decode cX4_runs 84 = .ok (.aload_n 0, 1) := dk_42 (dk_at dksX4_runs_3 15 rfl rfl)
theorem dX4_runs_85 : decode cX4_runs 85 = .ok (.getfield 41, 3) := dk_180 0 41 (dk_at dksX4_runs_3 16 rfl rfl)
theorem dX4_runs_88 : decode cX4_runs 88 = .ok (.isub, 1) := dk_100 (dk_at dksX4_runs_3 19 rfl rfl)
theorem dX4_runs_89 : decode cX4_runs 89 = .ok (.istore_n 2, 1) := dk_61 (dk_at dksX4_runs_3 20 rfl rfl)
theorem dX4_runs_90 : decode cX4_runs 90 = .ok (.aload_n 0, 1) := dk_42 (dk_at dksX4_runs_3 21 rfl rfl)
theorem dX4_runs_91 : decode cX4_runs 91 = .ok (.iload_n 1, 1) := dk_27 (dk_at dksX4_runs_3 22 rfl rfl)
theorem dX4_runs_92 : decode cX4_runs 92 = .ok (.iload_n 2, 1) := dk_28 (dk_at dksX4_runs_3 23 rfl rfl)
theorem dX4_runs_93 : decode cX4_runs 93 = .ok (.if_icmp .ne 7, 3) := dk_160 0 7 (dk_at dksX4_runs_4 0 rfl rfl)
theorem dX4_runs_96 : decode cX4_runs 96 = .ok (.iconst 1, 1) := dk_4 (dk_at dksX4_runs_4 3 rfl rfl)
theorem dX4_runs_97 : decode cX4_runs 97 = .ok (.goto 17, 3) := dk_167 0 17 (dk_at dksX4_runs_4 4 rfl rfl)
theorem dX4_runs_100 : decode cX4_runs 100 = .ok (.iload_n 1, 1) := dk_27 (dk_at dksX4_runs_4 7 rfl rfl)
theorem dX4_runs_101 : decode cX4_runs 101 = .ok (.ifCond .ne 12, 3) := dk_154 0 12 (dk_at dksX4_runs_4 8 rfl rfl)
theorem dX4_runs_104 : decode cX4_runs 104 = .ok (.iload_n 2, 1) := dk_28 (dk_at dksX4_runs_4 11 rfl rfl)
theorem dX4_runs_105 : decode cX4_runs 105 = .ok (.iconst 3, 1) := dk_6 (dk_at dksX4_runs_4 12 rfl rfl)
theorem dX4_runs_106 : decode cX4_runs 106 = .ok (.if_icmp .ge 7, 3) := dk_162 0 7 (dk_at dksX4_runs_4 13 rfl rfl)
theorem dX4_runs_109 : decode cX4_runs 109 = .ok (.iconst 2, 1) := dk_5 (dk_at dksX4_runs_4 16 rfl rfl)
theorem dX4_runs_110 : decode cX4_runs 110 = .ok (.goto 4, 3) := dk_167 0 4 (dk_at dksX4_runs_4 17 rfl rfl)
theorem dX4_runs_113 : decode cX4_runs 113 = .ok (.iconst 4, 1) := dk_7 (dk_at dksX4_runs_4 20 rfl rfl)
theorem dX4_runs_114 : decode cX4_runs 114 = .ok (.putfield 44, 3) := dk_181 0 44 (dk_at dksX4_runs_4 21 rfl rfl)
theorem dX4_runs_117 : decode cX4_runs 117 = .ok (.return_, 1) := dk_177 (dk_at dksX4_runs_5 0 rfl rfl)
abbrev cX4_is : ByteArray := prog_5_method_8_code
def yX4_is : MethodName := ⟨RX4, "is", "(Ljava/lang/String;)Z"⟩
def dkwX4_is_3 : List UInt8 := [132, 3, 1, 167, 255, 213, 28, 172]
abbrev dktX4_is_3 : List UInt8 := dkwX4_is_3 ++ []
def dkwX4_is_2 : List UInt8 := [180, 0, 29, 42, 180, 0, 41, 29, 96, 51, 43, 29, 182, 0, 70, 160, 0, 7, 4, 167, 0, 4, 3, 61]
abbrev dktX4_is_2 : List UInt8 := dkwX4_is_2 ++ dktX4_is_3
def dkwX4_is_1 : List UInt8 := [4, 167, 0, 4, 3, 61, 3, 62, 28, 153, 0, 45, 29, 43, 182, 0, 65, 162, 0, 37, 42, 180, 0, 3]
abbrev dktX4_is_1 : List UInt8 := dkwX4_is_1 ++ dktX4_is_2
def dkwX4_is_0 : List UInt8 := [42, 180, 0, 44, 4, 160, 0, 23, 42, 180, 0, 22, 42, 180, 0, 41, 100, 43, 182, 0, 65, 160, 0, 7]
abbrev dktX4_is_0 : List UInt8 := dkwX4_is_0 ++ dktX4_is_1
theorem dksX4_is_0 : cX4_is.data.toList.drop 0 = dktX4_is_0 := by decide +kernel
theorem dksX4_is_1 : cX4_is.data.toList.drop 24 = dktX4_is_1 := dk_seg dksX4_is_0 24 rfl rfl
theorem dksX4_is_2 : cX4_is.data.toList.drop 48 = dktX4_is_2 := dk_seg dksX4_is_1 24 rfl rfl
theorem dksX4_is_3 : cX4_is.data.toList.drop 72 = dktX4_is_3 := dk_seg dksX4_is_2 24 rfl rfl
theorem dX4_is_0 : decode cX4_is 0 = .ok (.aload_n 0, 1) := dk_42 (dk_at dksX4_is_0 0 rfl rfl)
theorem dX4_is_1 : decode cX4_is 1 = .ok (.getfield 44, 3) := dk_180 0 44 (dk_at dksX4_is_0 1 rfl rfl)
theorem dX4_is_4 : decode cX4_is 4 = .ok (.iconst 1, 1) := dk_4 (dk_at dksX4_is_0 4 rfl rfl)
theorem dX4_is_5 : decode cX4_is 5 = .ok (.if_icmp .ne 23, 3) := dk_160 0 23 (dk_at dksX4_is_0 5 rfl rfl)
theorem dX4_is_8 : decode cX4_is 8 = .ok (.aload_n 0, 1) := dk_42 (dk_at dksX4_is_0 8 rfl rfl)
theorem dX4_is_9 : decode cX4_is 9 = .ok (.getfield 22, 3) := dk_180 0 22 (dk_at dksX4_is_0 9 rfl rfl)
theorem dX4_is_12 : decode cX4_is 12 = .ok (.aload_n 0, 1) := dk_42 (dk_at dksX4_is_0 12 rfl rfl)
theorem dX4_is_13 : decode cX4_is 13 = .ok (.getfield 41, 3) := dk_180 0 41 (dk_at dksX4_is_0 13 rfl rfl)
theorem dX4_is_16 : decode cX4_is 16 = .ok (.isub, 1) := dk_100 (dk_at dksX4_is_0 16 rfl rfl)
theorem dX4_is_17 : decode cX4_is 17 = .ok (.aload_n 1, 1) := dk_43 (dk_at dksX4_is_0 17 rfl rfl)
theorem dX4_is_18 : decode cX4_is 18 = .ok (.invokevirtual 65, 3) := dk_182 0 65 (dk_at dksX4_is_0 18 rfl rfl)
theorem dX4_is_21 : decode cX4_is 21 = .ok (.if_icmp .ne 7, 3) := dk_160 0 7 (dk_at dksX4_is_0 21 rfl rfl)
theorem dX4_is_24 : decode cX4_is 24 = .ok (.iconst 1, 1) := dk_4 (dk_at dksX4_is_1 0 rfl rfl)
theorem dX4_is_25 : decode cX4_is 25 = .ok (.goto 4, 3) := dk_167 0 4 (dk_at dksX4_is_1 1 rfl rfl)
theorem dX4_is_28 : decode cX4_is 28 = .ok (.iconst 0, 1) := dk_3 (dk_at dksX4_is_1 4 rfl rfl)
theorem dX4_is_29 : decode cX4_is 29 = .ok (.istore_n 2, 1) := dk_61 (dk_at dksX4_is_1 5 rfl rfl)
theorem dX4_is_30 : decode cX4_is 30 = .ok (.iconst 0, 1) := dk_3 (dk_at dksX4_is_1 6 rfl rfl)
theorem dX4_is_31 : decode cX4_is 31 = .ok (.istore_n 3, 1) := dk_62 (dk_at dksX4_is_1 7 rfl rfl)
theorem dX4_is_32 : decode cX4_is 32 = .ok (.iload_n 2, 1) := dk_28 (dk_at dksX4_is_1 8 rfl rfl)
theorem dX4_is_33 : decode cX4_is 33 = .ok (.ifCond .eq 45, 3) := dk_153 0 45 (dk_at dksX4_is_1 9 rfl rfl)
theorem dX4_is_36 : decode cX4_is 36 = .ok (.iload_n 3, 1) := dk_29 (dk_at dksX4_is_1 12 rfl rfl)
theorem dX4_is_37 : decode cX4_is 37 = .ok (.aload_n 1, 1) := dk_43 (dk_at dksX4_is_1 13 rfl rfl)
theorem dX4_is_38 : decode cX4_is 38 = .ok (.invokevirtual 65, 3) := dk_182 0 65 (dk_at dksX4_is_1 14 rfl rfl)
theorem dX4_is_41 : decode cX4_is 41 = .ok (.if_icmp .ge 37, 3) := dk_162 0 37 (dk_at dksX4_is_1 17 rfl rfl)
theorem dX4_is_44 : decode cX4_is 44 = .ok (.aload_n 0, 1) := dk_42 (dk_at dksX4_is_1 20 rfl rfl)
theorem dX4_is_45 : decode cX4_is 45 = .ok (.getfield 3, 3) := dk_180 0 3 (dk_at dksX4_is_1 21 rfl rfl)
theorem dX4_is_48 : decode cX4_is 48 = .ok (.getfield 29, 3) := dk_180 0 29 (dk_at dksX4_is_2 0 rfl rfl)
theorem dX4_is_51 : decode cX4_is 51 = .ok (.aload_n 0, 1) := dk_42 (dk_at dksX4_is_2 3 rfl rfl)
theorem dX4_is_52 : decode cX4_is 52 = .ok (.getfield 41, 3) := dk_180 0 41 (dk_at dksX4_is_2 4 rfl rfl)
theorem dX4_is_55 : decode cX4_is 55 = .ok (.iload_n 3, 1) := dk_29 (dk_at dksX4_is_2 7 rfl rfl)
theorem dX4_is_56 : decode cX4_is 56 = .ok (.iadd, 1) := dk_96 (dk_at dksX4_is_2 8 rfl rfl)
theorem dX4_is_57 : decode cX4_is 57 = .ok (.baload, 1) := dk_51 (dk_at dksX4_is_2 9 rfl rfl)
theorem dX4_is_58 : decode cX4_is 58 = .ok (.aload_n 1, 1) := dk_43 (dk_at dksX4_is_2 10 rfl rfl)
theorem dX4_is_59 : decode cX4_is 59 = .ok (.iload_n 3, 1) := dk_29 (dk_at dksX4_is_2 11 rfl rfl)
theorem dX4_is_60 : decode cX4_is 60 = .ok (.invokevirtual 70, 3) := dk_182 0 70 (dk_at dksX4_is_2 12 rfl rfl)
theorem dX4_is_63 : decode cX4_is 63 = .ok (.if_icmp .ne 7, 3) := dk_160 0 7 (dk_at dksX4_is_2 15 rfl rfl)
theorem dX4_is_66 : decode cX4_is 66 = .ok (.iconst 1, 1) := dk_4 (dk_at dksX4_is_2 18 rfl rfl)
theorem dX4_is_67 : decode cX4_is 67 = .ok (.goto 4, 3) := dk_167 0 4 (dk_at dksX4_is_2 19 rfl rfl)
theorem dX4_is_70 : decode cX4_is 70 = .ok (.iconst 0, 1) := dk_3 (dk_at dksX4_is_2 22 rfl rfl)
theorem dX4_is_71 : decode cX4_is 71 = .ok (.istore_n 2, 1) := dk_61 (dk_at dksX4_is_2 23 rfl rfl)
theorem dX4_is_72 : decode cX4_is 72 = .ok (.iinc 3 1, 3) := dk_132 3 1 (dk_at dksX4_is_3 0 rfl rfl)
theorem dX4_is_75 : decode cX4_is 75 = .ok (.goto (-43), 3) := dk_167 255 213 (dk_at dksX4_is_3 3 rfl rfl)
theorem dX4_is_78 : decode cX4_is 78 = .ok (.iload_n 2, 1) := dk_28 (dk_at dksX4_is_3 6 rfl rfl)
theorem dX4_is_79 : decode cX4_is 79 = .ok (.ireturn, 1) := dk_172 (dk_at dksX4_is_3 7 rfl rfl)
abbrev cX4_must : ByteArray := prog_5_method_7_code
def yX4_must : MethodName := ⟨RX4, "must", "(ZI)V"⟩
def dkwX4_must_0 : List UInt8 := [27, 154, 0, 16, 187, 0, 60, 89, 28, 42, 180, 0, 41, 183, 0, 62, 191, 177]
abbrev dktX4_must_0 : List UInt8 := dkwX4_must_0 ++ []
theorem dksX4_must_0 : cX4_must.data.toList.drop 0 = dktX4_must_0 := by decide +kernel
theorem dX4_must_0 : decode cX4_must 0 = .ok (.iload_n 1, 1) := dk_27 (dk_at dksX4_must_0 0 rfl rfl)
theorem dX4_must_1 : decode cX4_must 1 = .ok (.ifCond .ne 16, 3) := dk_154 0 16 (dk_at dksX4_must_0 1 rfl rfl)
theorem dX4_must_4 : decode cX4_must 4 = .ok (.new 60, 3) := dk_187 0 60 (dk_at dksX4_must_0 4 rfl rfl)
theorem dX4_must_7 : decode cX4_must 7 = .ok (.dup, 1) := dk_89 (dk_at dksX4_must_0 7 rfl rfl)
theorem dX4_must_8 : decode cX4_must 8 = .ok (.iload_n 2, 1) := dk_28 (dk_at dksX4_must_0 8 rfl rfl)
theorem dX4_must_9 : decode cX4_must 9 = .ok (.aload_n 0, 1) := dk_42 (dk_at dksX4_must_0 9 rfl rfl)
theorem dX4_must_10 : decode cX4_must 10 = .ok (.getfield 41, 3) := dk_180 0 41 (dk_at dksX4_must_0 10 rfl rfl)
theorem dX4_must_13 : decode cX4_must 13 = .ok (.invokespecial 62, 3) := dk_183 0 62 (dk_at dksX4_must_0 13 rfl rfl)
theorem dX4_must_16 : decode cX4_must 16 = .ok (.athrow, 1) := dk_191 (dk_at dksX4_must_0 16 rfl rfl)
theorem dX4_must_17 : decode cX4_must 17 = .ok (.return_, 1) := dk_177 (dk_at dksX4_must_0 17 rfl rfl)
abbrev cX4_number : ByteArray := prog_5_method_9_code
def yX4_number : MethodName := ⟨RX4, "number", "(II)I"⟩
def dkwX4_number_1 : List UInt8 := [28, 184, 0, 37, 5, 182, 0, 74, 42, 180, 0, 57, 62, 42, 182, 0, 78, 29, 172]
abbrev dktX4_number_1 : List UInt8 := dkwX4_number_1 ++ []
def dkwX4_number_0 : List UInt8 := [42, 42, 180, 0, 44, 5, 160, 0, 7, 4, 167, 0, 4, 3, 4, 182, 0, 74, 42, 42, 180, 0, 57, 27]
abbrev dktX4_number_0 : List UInt8 := dkwX4_number_0 ++ dktX4_number_1
theorem dksX4_number_0 : cX4_number.data.toList.drop 0 = dktX4_number_0 := by decide +kernel
theorem dksX4_number_1 : cX4_number.data.toList.drop 24 = dktX4_number_1 := dk_seg dksX4_number_0 24 rfl rfl
theorem dX4_number_0 : decode cX4_number 0 = .ok (.aload_n 0, 1) := dk_42 (dk_at dksX4_number_0 0 rfl rfl)
theorem dX4_number_1 : decode cX4_number 1 = .ok (.aload_n 0, 1) := dk_42 (dk_at dksX4_number_0 1 rfl rfl)
theorem dX4_number_2 : decode cX4_number 2 = .ok (.getfield 44, 3) := dk_180 0 44 (dk_at dksX4_number_0 2 rfl rfl)
theorem dX4_number_5 : decode cX4_number 5 = .ok (.iconst 2, 1) := dk_5 (dk_at dksX4_number_0 5 rfl rfl)
theorem dX4_number_6 : decode cX4_number 6 = .ok (.if_icmp .ne 7, 3) := dk_160 0 7 (dk_at dksX4_number_0 6 rfl rfl)
theorem dX4_number_9 : decode cX4_number 9 = .ok (.iconst 1, 1) := dk_4 (dk_at dksX4_number_0 9 rfl rfl)
theorem dX4_number_10 : decode cX4_number 10 = .ok (.goto 4, 3) := dk_167 0 4 (dk_at dksX4_number_0 10 rfl rfl)
theorem dX4_number_13 : decode cX4_number 13 = .ok (.iconst 0, 1) := dk_3 (dk_at dksX4_number_0 13 rfl rfl)
theorem dX4_number_14 : decode cX4_number 14 = .ok (.iconst 1, 1) := dk_4 (dk_at dksX4_number_0 14 rfl rfl)
theorem dX4_number_15 : decode cX4_number 15 = .ok (.invokevirtual 74, 3) := dk_182 0 74 (dk_at dksX4_number_0 15 rfl rfl)
theorem dX4_number_18 : decode cX4_number 18 = .ok (.aload_n 0, 1) := dk_42 (dk_at dksX4_number_0 18 rfl rfl)
theorem dX4_number_19 : decode cX4_number 19 = .ok (.aload_n 0, 1) := dk_42 (dk_at dksX4_number_0 19 rfl rfl)
theorem dX4_number_20 : decode cX4_number 20 = .ok (.getfield 57, 3) := dk_180 0 57 (dk_at dksX4_number_0 20 rfl rfl)
theorem dX4_number_23 : decode cX4_number 23 = .ok (.iload_n 1, 1) := dk_27 (dk_at dksX4_number_0 23 rfl rfl)
theorem dX4_number_24 : decode cX4_number 24 = .ok (.iload_n 2, 1) := dk_28 (dk_at dksX4_number_1 0 rfl rfl)
theorem dX4_number_25 : decode cX4_number 25 = .ok (.invokestatic 37, 3) := dk_184 0 37 (dk_at dksX4_number_1 1 rfl rfl)
theorem dX4_number_28 : decode cX4_number 28 = .ok (.iconst 2, 1) := dk_5 (dk_at dksX4_number_1 4 rfl rfl)
theorem dX4_number_29 : decode cX4_number 29 = .ok (.invokevirtual 74, 3) := dk_182 0 74 (dk_at dksX4_number_1 5 rfl rfl)
theorem dX4_number_32 : decode cX4_number 32 = .ok (.aload_n 0, 1) := dk_42 (dk_at dksX4_number_1 8 rfl rfl)
theorem dX4_number_33 : decode cX4_number 33 = .ok (.getfield 57, 3) := dk_180 0 57 (dk_at dksX4_number_1 9 rfl rfl)
theorem dX4_number_36 : decode cX4_number 36 = .ok (.istore_n 3, 1) := dk_62 (dk_at dksX4_number_1 12 rfl rfl)
theorem dX4_number_37 : decode cX4_number 37 = .ok (.aload_n 0, 1) := dk_42 (dk_at dksX4_number_1 13 rfl rfl)
theorem dX4_number_38 : decode cX4_number 38 = .ok (.invokevirtual 78, 3) := dk_182 0 78 (dk_at dksX4_number_1 14 rfl rfl)
theorem dX4_number_41 : decode cX4_number 41 = .ok (.iload_n 3, 1) := dk_29 (dk_at dksX4_number_1 17 rfl rfl)
theorem dX4_number_42 : decode cX4_number 42 = .ok (.ireturn, 1) := dk_172 (dk_at dksX4_number_1 18 rfl rfl)
abbrev cX4_shuts : ByteArray := prog_5_method_10_code
def yX4_shuts : MethodName := ⟨RX4, "shuts", "()V"⟩
def dkwX4_shuts_1 : List UInt8 := [180, 0, 81, 4, 96, 181, 0, 81, 177]
abbrev dktX4_shuts_1 : List UInt8 := dkwX4_shuts_1 ++ []
def dkwX4_shuts_0 : List UInt8 := [42, 42, 180, 0, 44, 6, 160, 0, 7, 4, 167, 0, 4, 3, 4, 182, 0, 74, 42, 182, 0, 78, 42, 89]
abbrev dktX4_shuts_0 : List UInt8 := dkwX4_shuts_0 ++ dktX4_shuts_1
theorem dksX4_shuts_0 : cX4_shuts.data.toList.drop 0 = dktX4_shuts_0 := by decide +kernel
theorem dksX4_shuts_1 : cX4_shuts.data.toList.drop 24 = dktX4_shuts_1 := dk_seg dksX4_shuts_0 24 rfl rfl
theorem dX4_shuts_0 : decode cX4_shuts 0 = .ok (.aload_n 0, 1) := dk_42 (dk_at dksX4_shuts_0 0 rfl rfl)
theorem dX4_shuts_1 : decode cX4_shuts 1 = .ok (.aload_n 0, 1) := dk_42 (dk_at dksX4_shuts_0 1 rfl rfl)
theorem dX4_shuts_2 : decode cX4_shuts 2 = .ok (.getfield 44, 3) := dk_180 0 44 (dk_at dksX4_shuts_0 2 rfl rfl)
theorem dX4_shuts_5 : decode cX4_shuts 5 = .ok (.iconst 3, 1) := dk_6 (dk_at dksX4_shuts_0 5 rfl rfl)
theorem dX4_shuts_6 : decode cX4_shuts 6 = .ok (.if_icmp .ne 7, 3) := dk_160 0 7 (dk_at dksX4_shuts_0 6 rfl rfl)
theorem dX4_shuts_9 : decode cX4_shuts 9 = .ok (.iconst 1, 1) := dk_4 (dk_at dksX4_shuts_0 9 rfl rfl)
theorem dX4_shuts_10 : decode cX4_shuts 10 = .ok (.goto 4, 3) := dk_167 0 4 (dk_at dksX4_shuts_0 10 rfl rfl)
theorem dX4_shuts_13 : decode cX4_shuts 13 = .ok (.iconst 0, 1) := dk_3 (dk_at dksX4_shuts_0 13 rfl rfl)
theorem dX4_shuts_14 : decode cX4_shuts 14 = .ok (.iconst 1, 1) := dk_4 (dk_at dksX4_shuts_0 14 rfl rfl)
theorem dX4_shuts_15 : decode cX4_shuts 15 = .ok (.invokevirtual 74, 3) := dk_182 0 74 (dk_at dksX4_shuts_0 15 rfl rfl)
theorem dX4_shuts_18 : decode cX4_shuts 18 = .ok (.aload_n 0, 1) := dk_42 (dk_at dksX4_shuts_0 18 rfl rfl)
theorem dX4_shuts_19 : decode cX4_shuts 19 = .ok (.invokevirtual 78, 3) := dk_182 0 78 (dk_at dksX4_shuts_0 19 rfl rfl)
theorem dX4_shuts_22 : decode cX4_shuts 22 = .ok (.aload_n 0, 1) := dk_42 (dk_at dksX4_shuts_0 22 rfl rfl)
theorem dX4_shuts_23 : decode cX4_shuts 23 = .ok (.dup, 1) := dk_89 (dk_at dksX4_shuts_0 23 rfl rfl)
theorem dX4_shuts_24 : decode cX4_shuts 24 = .ok (.getfield 81, 3) := dk_180 0 81 (dk_at dksX4_shuts_1 0 rfl rfl)
theorem dX4_shuts_27 : decode cX4_shuts 27 = .ok (.iconst 1, 1) := dk_4 (dk_at dksX4_shuts_1 3 rfl rfl)
theorem dX4_shuts_28 : decode cX4_shuts 28 = .ok (.iadd, 1) := dk_96 (dk_at dksX4_shuts_1 4 rfl rfl)
theorem dX4_shuts_29 : decode cX4_shuts 29 = .ok (.putfield 81, 3) := dk_181 0 81 (dk_at dksX4_shuts_1 5 rfl rfl)
theorem dX4_shuts_32 : decode cX4_shuts 32 = .ok (.return_, 1) := dk_177 (dk_at dksX4_shuts_1 8 rfl rfl)
abbrev cX4_needLine : ByteArray := prog_5_method_11_code
def yX4_needLine : MethodName := ⟨RX4, "needLine", "()V"⟩
def dkwX4_needLine_5 : List UInt8 := [182, 0, 98, 177]
abbrev dktX4_needLine_5 : List UInt8 := dkwX4_needLine_5 ++ []
def dkwX4_needLine_4 : List UInt8 := [96, 79, 132, 5, 1, 167, 255, 227, 42, 180, 0, 18, 89, 180, 0, 84, 4, 96, 181, 0, 84, 42]
abbrev dktX4_needLine_4 : List UInt8 := dkwX4_needLine_4 ++ dktX4_needLine_5
def dkwX4_needLine_3 : List UInt8 := [21, 5, 29, 163, 0, 29, 42, 180, 0, 18, 180, 0, 94, 16, 48, 27, 104, 21, 5, 96, 92, 46, 21, 4]
abbrev dktX4_needLine_3 : List UInt8 := dkwX4_needLine_3 ++ dktX4_needLine_4
def dkwX4_needLine_2 : List UInt8 := [182, 0, 90, 61, 42, 28, 16, 47, 182, 0, 90, 62, 42, 3, 16, 9, 182, 0, 90, 54, 4, 28, 54, 5]
abbrev dktX4_needLine_2 : List UInt8 := dkwX4_needLine_2 ++ dktX4_needLine_3
def dkwX4_needLine_1 : List UInt8 := [182, 0, 78, 42, 3, 42, 180, 0, 18, 180, 0, 87, 4, 100, 182, 0, 90, 60, 42, 3, 16, 47]
abbrev dktX4_needLine_1 : List UInt8 := dkwX4_needLine_1 ++ dktX4_needLine_2
def dkwX4_needLine_0 : List UInt8 := [42, 42, 180, 0, 18, 180, 0, 84, 16, 10, 162, 0, 7, 4, 167, 0, 4, 3, 6, 182, 0, 74, 42]
abbrev dktX4_needLine_0 : List UInt8 := dkwX4_needLine_0 ++ dktX4_needLine_1
theorem dksX4_needLine_0 : cX4_needLine.data.toList.drop 0 = dktX4_needLine_0 := by decide +kernel
theorem dksX4_needLine_1 : cX4_needLine.data.toList.drop 23 = dktX4_needLine_1 := dk_seg dksX4_needLine_0 23 rfl rfl
theorem dksX4_needLine_2 : cX4_needLine.data.toList.drop 45 = dktX4_needLine_2 := dk_seg dksX4_needLine_1 22 rfl rfl
theorem dksX4_needLine_3 : cX4_needLine.data.toList.drop 69 = dktX4_needLine_3 := dk_seg dksX4_needLine_2 24 rfl rfl
theorem dksX4_needLine_4 : cX4_needLine.data.toList.drop 93 = dktX4_needLine_4 := dk_seg dksX4_needLine_3 24 rfl rfl
theorem dksX4_needLine_5 : cX4_needLine.data.toList.drop 115 = dktX4_needLine_5 := dk_seg dksX4_needLine_4 22 rfl rfl
theorem dX4_needLine_0 : decode cX4_needLine 0 = .ok (.aload_n 0, 1) := dk_42 (dk_at dksX4_needLine_0 0 rfl rfl)
theorem dX4_needLine_1 : decode cX4_needLine 1 = .ok (.aload_n 0, 1) := dk_42 (dk_at dksX4_needLine_0 1 rfl rfl)
theorem dX4_needLine_2 : decode cX4_needLine 2 = .ok (.getfield 18, 3) := dk_180 0 18 (dk_at dksX4_needLine_0 2 rfl rfl)
theorem dX4_needLine_5 : decode cX4_needLine 5 = .ok (.getfield 84, 3) := dk_180 0 84 (dk_at dksX4_needLine_0 5 rfl rfl)
theorem dX4_needLine_8 : decode cX4_needLine 8 = .ok (.bipush 10, 2) := dk_16 10 (dk_at dksX4_needLine_0 8 rfl rfl)
theorem dX4_needLine_10 : decode cX4_needLine 10 = .ok (.if_icmp .ge 7, 3) := dk_162 0 7 (dk_at dksX4_needLine_0 10 rfl rfl)
theorem dX4_needLine_13 : decode cX4_needLine 13 = .ok (.iconst 1, 1) := dk_4 (dk_at dksX4_needLine_0 13 rfl rfl)
theorem dX4_needLine_14 : decode cX4_needLine 14 = .ok (.goto 4, 3) := dk_167 0 4 (dk_at dksX4_needLine_0 14 rfl rfl)
theorem dX4_needLine_17 : decode cX4_needLine 17 = .ok (.iconst 0, 1) := dk_3 (dk_at dksX4_needLine_0 17 rfl rfl)
theorem dX4_needLine_18 : decode cX4_needLine 18 = .ok (.iconst 3, 1) := dk_6 (dk_at dksX4_needLine_0 18 rfl rfl)
theorem dX4_needLine_19 : decode cX4_needLine 19 = .ok (.invokevirtual 74, 3) := dk_182 0 74 (dk_at dksX4_needLine_0 19 rfl rfl)
theorem dX4_needLine_22 : decode cX4_needLine 22 = .ok (.aload_n 0, 1) := dk_42 (dk_at dksX4_needLine_0 22 rfl rfl)
theorem dX4_needLine_23 : decode cX4_needLine 23 = .ok (.invokevirtual 78, 3) := dk_182 0 78 (dk_at dksX4_needLine_1 0 rfl rfl)
theorem dX4_needLine_26 : decode cX4_needLine 26 = .ok (.aload_n 0, 1) := dk_42 (dk_at dksX4_needLine_1 3 rfl rfl)
theorem dX4_needLine_27 : decode cX4_needLine 27 = .ok (.iconst 0, 1) := dk_3 (dk_at dksX4_needLine_1 4 rfl rfl)
theorem dX4_needLine_28 : decode cX4_needLine 28 = .ok (.aload_n 0, 1) := dk_42 (dk_at dksX4_needLine_1 5 rfl rfl)
theorem dX4_needLine_29 : decode cX4_needLine 29 = .ok (.getfield 18, 3) := dk_180 0 18 (dk_at dksX4_needLine_1 6 rfl rfl)
theorem dX4_needLine_32 : decode cX4_needLine 32 = .ok (.getfield 87, 3) := dk_180 0 87 (dk_at dksX4_needLine_1 9 rfl rfl)
theorem dX4_needLine_35 : decode cX4_needLine 35 = .ok (.iconst 1, 1) := dk_4 (dk_at dksX4_needLine_1 12 rfl rfl)
theorem dX4_needLine_36 : decode cX4_needLine 36 = .ok (.isub, 1) := dk_100 (dk_at dksX4_needLine_1 13 rfl rfl)
theorem dX4_needLine_37 : decode cX4_needLine 37 = .ok (.invokevirtual 90, 3) := dk_182 0 90 (dk_at dksX4_needLine_1 14 rfl rfl)
theorem dX4_needLine_40 : decode cX4_needLine 40 = .ok (.istore_n 1, 1) := dk_60 (dk_at dksX4_needLine_1 17 rfl rfl)
theorem dX4_needLine_41 : decode cX4_needLine 41 = .ok (.aload_n 0, 1) := dk_42 (dk_at dksX4_needLine_1 18 rfl rfl)
theorem dX4_needLine_42 : decode cX4_needLine 42 = .ok (.iconst 0, 1) := dk_3 (dk_at dksX4_needLine_1 19 rfl rfl)
theorem dX4_needLine_43 : decode cX4_needLine 43 = .ok (.bipush 47, 2) := dk_16 47 (dk_at dksX4_needLine_1 20 rfl rfl)
theorem dX4_needLine_45 : decode cX4_needLine 45 = .ok (.invokevirtual 90, 3) := dk_182 0 90 (dk_at dksX4_needLine_2 0 rfl rfl)
theorem dX4_needLine_48 : decode cX4_needLine 48 = .ok (.istore_n 2, 1) := dk_61 (dk_at dksX4_needLine_2 3 rfl rfl)
theorem dX4_needLine_49 : decode cX4_needLine 49 = .ok (.aload_n 0, 1) := dk_42 (dk_at dksX4_needLine_2 4 rfl rfl)
theorem dX4_needLine_50 : decode cX4_needLine 50 = .ok (.iload_n 2, 1) := dk_28 (dk_at dksX4_needLine_2 5 rfl rfl)
theorem dX4_needLine_51 : decode cX4_needLine 51 = .ok (.bipush 47, 2) := dk_16 47 (dk_at dksX4_needLine_2 6 rfl rfl)
theorem dX4_needLine_53 : decode cX4_needLine 53 = .ok (.invokevirtual 90, 3) := dk_182 0 90 (dk_at dksX4_needLine_2 8 rfl rfl)
theorem dX4_needLine_56 : decode cX4_needLine 56 = .ok (.istore_n 3, 1) := dk_62 (dk_at dksX4_needLine_2 11 rfl rfl)
theorem dX4_needLine_57 : decode cX4_needLine 57 = .ok (.aload_n 0, 1) := dk_42 (dk_at dksX4_needLine_2 12 rfl rfl)
theorem dX4_needLine_58 : decode cX4_needLine 58 = .ok (.iconst 0, 1) := dk_3 (dk_at dksX4_needLine_2 13 rfl rfl)
theorem dX4_needLine_59 : decode cX4_needLine 59 = .ok (.bipush 9, 2) := dk_16 9 (dk_at dksX4_needLine_2 14 rfl rfl)
theorem dX4_needLine_61 : decode cX4_needLine 61 = .ok (.invokevirtual 90, 3) := dk_182 0 90 (dk_at dksX4_needLine_2 16 rfl rfl)
theorem dX4_needLine_64 : decode cX4_needLine 64 = .ok (.istore 4, 2) := dk_54 4 (dk_at dksX4_needLine_2 19 rfl rfl)
theorem dX4_needLine_66 : decode cX4_needLine 66 = .ok (.iload_n 2, 1) := dk_28 (dk_at dksX4_needLine_2 21 rfl rfl)
theorem dX4_needLine_67 : decode cX4_needLine 67 = .ok (.istore 5, 2) := dk_54 5 (dk_at dksX4_needLine_2 22 rfl rfl)
theorem dX4_needLine_69 : decode cX4_needLine 69 = .ok (.iload 5, 2) := dk_21 5 (dk_at dksX4_needLine_3 0 rfl rfl)
theorem dX4_needLine_71 : decode cX4_needLine 71 = .ok (.iload_n 3, 1) := dk_29 (dk_at dksX4_needLine_3 2 rfl rfl)
theorem dX4_needLine_72 : decode cX4_needLine 72 = .ok (.if_icmp .gt 29, 3) := dk_163 0 29 (dk_at dksX4_needLine_3 3 rfl rfl)
theorem dX4_needLine_75 : decode cX4_needLine 75 = .ok (.aload_n 0, 1) := dk_42 (dk_at dksX4_needLine_3 6 rfl rfl)
theorem dX4_needLine_76 : decode cX4_needLine 76 = .ok (.getfield 18, 3) := dk_180 0 18 (dk_at dksX4_needLine_3 7 rfl rfl)
theorem dX4_needLine_79 : decode cX4_needLine 79 = .ok (.getfield 94, 3) := dk_180 0 94 (dk_at dksX4_needLine_3 10 rfl rfl)
theorem dX4_needLine_82 : decode cX4_needLine 82 = .ok (.bipush 48, 2) := dk_16 48 (dk_at dksX4_needLine_3 13 rfl rfl)
theorem dX4_needLine_84 : decode cX4_needLine 84 = .ok (.iload_n 1, 1) := dk_27 (dk_at dksX4_needLine_3 15 rfl rfl)
theorem dX4_needLine_85 : decode cX4_needLine 85 = .ok (.imul, 1) := dk_104 (dk_at dksX4_needLine_3 16 rfl rfl)
theorem dX4_needLine_86 : decode cX4_needLine 86 = .ok (.iload 5, 2) := dk_21 5 (dk_at dksX4_needLine_3 17 rfl rfl)
theorem dX4_needLine_88 : decode cX4_needLine 88 = .ok (.iadd, 1) := dk_96 (dk_at dksX4_needLine_3 19 rfl rfl)
theorem dX4_needLine_89 : decode cX4_needLine 89 = .ok (.dup2, 1) := dk_92 (dk_at dksX4_needLine_3 20 rfl rfl)
theorem dX4_needLine_90 : decode cX4_needLine 90 = .ok (.iaload, 1) := dk_46 (dk_at dksX4_needLine_3 21 rfl rfl)
theorem dX4_needLine_91 : decode cX4_needLine 91 = .ok (.iload 4, 2) := dk_21 4 (dk_at dksX4_needLine_3 22 rfl rfl)
theorem dX4_needLine_93 : decode cX4_needLine 93 = .ok (.iadd, 1) := dk_96 (dk_at dksX4_needLine_4 0 rfl rfl)
theorem dX4_needLine_94 : decode cX4_needLine 94 = .ok (.iastore, 1) := dk_79 (dk_at dksX4_needLine_4 1 rfl rfl)
theorem dX4_needLine_95 : decode cX4_needLine 95 = .ok (.iinc 5 1, 3) := dk_132 5 1 (dk_at dksX4_needLine_4 2 rfl rfl)
theorem dX4_needLine_98 : decode cX4_needLine 98 = .ok (.goto (-29), 3) := dk_167 255 227 (dk_at dksX4_needLine_4 5 rfl rfl)
theorem dX4_needLine_101 : decode cX4_needLine 101 = .ok (.aload_n 0, 1) := dk_42 (dk_at dksX4_needLine_4 8 rfl rfl)
theorem dX4_needLine_102 : decode cX4_needLine 102 = .ok (.getfield 18, 3) := dk_180 0 18 (dk_at dksX4_needLine_4 9 rfl rfl)
theorem dX4_needLine_105 : decode cX4_needLine 105 = .ok (.dup, 1) := dk_89 (dk_at dksX4_needLine_4 12 rfl rfl)
theorem dX4_needLine_106 : decode cX4_needLine 106 = .ok (.getfield 84, 3) := dk_180 0 84 (dk_at dksX4_needLine_4 13 rfl rfl)
theorem dX4_needLine_109 : decode cX4_needLine 109 = .ok (.iconst 1, 1) := dk_4 (dk_at dksX4_needLine_4 16 rfl rfl)
theorem dX4_needLine_110 : decode cX4_needLine 110 = .ok (.iadd, 1) := dk_96 (dk_at dksX4_needLine_4 17 rfl rfl)
theorem dX4_needLine_111 : decode cX4_needLine 111 = .ok (.putfield 84, 3) := dk_181 0 84 (dk_at dksX4_needLine_4 18 rfl rfl)
theorem dX4_needLine_114 : decode cX4_needLine 114 = .ok (.aload_n 0, 1) := dk_42 (dk_at dksX4_needLine_4 21 rfl rfl)
theorem dX4_needLine_115 : decode cX4_needLine 115 = .ok (.invokevirtual 98, 3) := dk_182 0 98 (dk_at dksX4_needLine_5 0 rfl rfl)
theorem dX4_needLine_118 : decode cX4_needLine 118 = .ok (.return_, 1) := dk_177 (dk_at dksX4_needLine_5 3 rfl rfl)
abbrev cX4_shiftLine : ByteArray := prog_5_method_12_code
def yX4_shiftLine : MethodName := ⟨RX4, "shiftLine", "()V"⟩
def dkwX4_shiftLine_9 : List UInt8 := [182, 0, 98, 177]
abbrev dktX4_shiftLine_9 : List UInt8 := dkwX4_shiftLine_9 ++ []
def dkwX4_shiftLine_8 : List UInt8 := [180, 0, 18, 180, 0, 101, 4, 100, 21, 4, 21, 5, 21, 6, 183, 0, 131, 182, 0, 134, 167, 255, 127, 42]
abbrev dktX4_shiftLine_8 : List UInt8 := dkwX4_shiftLine_8 ++ dktX4_shiftLine_9
def dkwX4_shiftLine_7 : List UInt8 := [180, 0, 18, 180, 0, 101, 4, 100, 21, 4, 21, 5, 183, 0, 130, 167, 0, 25, 187, 0, 128, 89, 42]
abbrev dktX4_shiftLine_7 : List UInt8 := dkwX4_shiftLine_7 ++ dktX4_shiftLine_8
def dkwX4_shiftLine_6 : List UInt8 := [4, 96, 182, 0, 90, 54, 6, 42, 180, 0, 18, 21, 5, 21, 6, 160, 0, 26, 187, 0, 128, 89, 42]
abbrev dktX4_shiftLine_6 : List UInt8 := dkwX4_shiftLine_6 ++ dktX4_shiftLine_7
def dkwX4_shiftLine_5 : List UInt8 := [42, 45, 180, 0, 122, 45, 180, 0, 125, 182, 0, 90, 54, 5, 42, 21, 5, 45, 180, 0, 125, 21, 4, 100]
abbrev dktX4_shiftLine_5 : List UInt8 := dkwX4_shiftLine_5 ++ dktX4_shiftLine_6
def dkwX4_shiftLine_4 : List UInt8 := [162, 0, 7, 4, 167, 0, 4, 3, 6, 182, 0, 74, 42, 182, 0, 78, 42, 4, 7, 182, 0, 90, 54, 4]
abbrev dktX4_shiftLine_4 : List UInt8 := dkwX4_shiftLine_4 ++ dktX4_shiftLine_5
def dkwX4_shiftLine_3 : List UInt8 := [180, 0, 18, 45, 182, 0, 109, 42, 18, 113, 182, 0, 115, 153, 0, 126, 42, 45, 180, 0, 119, 6]
abbrev dktX4_shiftLine_3 : List UInt8 := dkwX4_shiftLine_3 ++ dktX4_shiftLine_4
def dkwX4_shiftLine_2 : List UInt8 := [182, 0, 90, 61, 187, 0, 104, 89, 27, 28, 42, 28, 16, 47, 182, 0, 90, 183, 0, 106, 78, 42]
abbrev dktX4_shiftLine_2 : List UInt8 := dkwX4_shiftLine_2 ++ dktX4_shiftLine_3
def dkwX4_shiftLine_1 : List UInt8 := [182, 0, 78, 42, 3, 42, 180, 0, 18, 180, 0, 87, 4, 100, 182, 0, 90, 60, 42, 3, 16, 47]
abbrev dktX4_shiftLine_1 : List UInt8 := dkwX4_shiftLine_1 ++ dktX4_shiftLine_2
def dkwX4_shiftLine_0 : List UInt8 := [42, 42, 180, 0, 18, 180, 0, 101, 16, 8, 162, 0, 7, 4, 167, 0, 4, 3, 6, 182, 0, 74, 42]
abbrev dktX4_shiftLine_0 : List UInt8 := dkwX4_shiftLine_0 ++ dktX4_shiftLine_1
theorem dksX4_shiftLine_0 : cX4_shiftLine.data.toList.drop 0 = dktX4_shiftLine_0 := by decide +kernel
theorem dksX4_shiftLine_1 : cX4_shiftLine.data.toList.drop 23 = dktX4_shiftLine_1 := dk_seg dksX4_shiftLine_0 23 rfl rfl
theorem dksX4_shiftLine_2 : cX4_shiftLine.data.toList.drop 45 = dktX4_shiftLine_2 := dk_seg dksX4_shiftLine_1 22 rfl rfl
theorem dksX4_shiftLine_3 : cX4_shiftLine.data.toList.drop 67 = dktX4_shiftLine_3 := dk_seg dksX4_shiftLine_2 22 rfl rfl
theorem dksX4_shiftLine_4 : cX4_shiftLine.data.toList.drop 89 = dktX4_shiftLine_4 := dk_seg dksX4_shiftLine_3 22 rfl rfl
theorem dksX4_shiftLine_5 : cX4_shiftLine.data.toList.drop 113 = dktX4_shiftLine_5 := dk_seg dksX4_shiftLine_4 24 rfl rfl
theorem dksX4_shiftLine_6 : cX4_shiftLine.data.toList.drop 137 = dktX4_shiftLine_6 := dk_seg dksX4_shiftLine_5 24 rfl rfl
theorem dksX4_shiftLine_7 : cX4_shiftLine.data.toList.drop 160 = dktX4_shiftLine_7 := dk_seg dksX4_shiftLine_6 23 rfl rfl
theorem dksX4_shiftLine_8 : cX4_shiftLine.data.toList.drop 183 = dktX4_shiftLine_8 := dk_seg dksX4_shiftLine_7 23 rfl rfl
theorem dksX4_shiftLine_9 : cX4_shiftLine.data.toList.drop 207 = dktX4_shiftLine_9 := dk_seg dksX4_shiftLine_8 24 rfl rfl
theorem dX4_shiftLine_0 : decode cX4_shiftLine 0 = .ok (.aload_n 0, 1) := dk_42 (dk_at dksX4_shiftLine_0 0 rfl rfl)
theorem dX4_shiftLine_1 : decode cX4_shiftLine 1 = .ok (.aload_n 0, 1) := dk_42 (dk_at dksX4_shiftLine_0 1 rfl rfl)
theorem dX4_shiftLine_2 : decode cX4_shiftLine 2 = .ok (.getfield 18, 3) := dk_180 0 18 (dk_at dksX4_shiftLine_0 2 rfl rfl)
theorem dX4_shiftLine_5 : decode cX4_shiftLine 5 = .ok (.getfield 101, 3) := dk_180 0 101 (dk_at dksX4_shiftLine_0 5 rfl rfl)
theorem dX4_shiftLine_8 : decode cX4_shiftLine 8 = .ok (.bipush 8, 2) := dk_16 8 (dk_at dksX4_shiftLine_0 8 rfl rfl)
theorem dX4_shiftLine_10 : decode cX4_shiftLine 10 = .ok (.if_icmp .ge 7, 3) := dk_162 0 7 (dk_at dksX4_shiftLine_0 10 rfl rfl)
theorem dX4_shiftLine_13 : decode cX4_shiftLine 13 = .ok (.iconst 1, 1) := dk_4 (dk_at dksX4_shiftLine_0 13 rfl rfl)
theorem dX4_shiftLine_14 : decode cX4_shiftLine 14 = .ok (.goto 4, 3) := dk_167 0 4 (dk_at dksX4_shiftLine_0 14 rfl rfl)
theorem dX4_shiftLine_17 : decode cX4_shiftLine 17 = .ok (.iconst 0, 1) := dk_3 (dk_at dksX4_shiftLine_0 17 rfl rfl)
theorem dX4_shiftLine_18 : decode cX4_shiftLine 18 = .ok (.iconst 3, 1) := dk_6 (dk_at dksX4_shiftLine_0 18 rfl rfl)
theorem dX4_shiftLine_19 : decode cX4_shiftLine 19 = .ok (.invokevirtual 74, 3) := dk_182 0 74 (dk_at dksX4_shiftLine_0 19 rfl rfl)
theorem dX4_shiftLine_22 : decode cX4_shiftLine 22 = .ok (.aload_n 0, 1) := dk_42 (dk_at dksX4_shiftLine_0 22 rfl rfl)
theorem dX4_shiftLine_23 : decode cX4_shiftLine 23 = .ok (.invokevirtual 78, 3) := dk_182 0 78 (dk_at dksX4_shiftLine_1 0 rfl rfl)
theorem dX4_shiftLine_26 : decode cX4_shiftLine 26 = .ok (.aload_n 0, 1) := dk_42 (dk_at dksX4_shiftLine_1 3 rfl rfl)
theorem dX4_shiftLine_27 : decode cX4_shiftLine 27 = .ok (.iconst 0, 1) := dk_3 (dk_at dksX4_shiftLine_1 4 rfl rfl)
theorem dX4_shiftLine_28 : decode cX4_shiftLine 28 = .ok (.aload_n 0, 1) := dk_42 (dk_at dksX4_shiftLine_1 5 rfl rfl)
theorem dX4_shiftLine_29 : decode cX4_shiftLine 29 = .ok (.getfield 18, 3) := dk_180 0 18 (dk_at dksX4_shiftLine_1 6 rfl rfl)
theorem dX4_shiftLine_32 : decode cX4_shiftLine 32 = .ok (.getfield 87, 3) := dk_180 0 87 (dk_at dksX4_shiftLine_1 9 rfl rfl)
theorem dX4_shiftLine_35 : decode cX4_shiftLine 35 = .ok (.iconst 1, 1) := dk_4 (dk_at dksX4_shiftLine_1 12 rfl rfl)
theorem dX4_shiftLine_36 : decode cX4_shiftLine 36 = .ok (.isub, 1) := dk_100 (dk_at dksX4_shiftLine_1 13 rfl rfl)
theorem dX4_shiftLine_37 : decode cX4_shiftLine 37 = .ok (.invokevirtual 90, 3) := dk_182 0 90 (dk_at dksX4_shiftLine_1 14 rfl rfl)
theorem dX4_shiftLine_40 : decode cX4_shiftLine 40 = .ok (.istore_n 1, 1) := dk_60 (dk_at dksX4_shiftLine_1 17 rfl rfl)
theorem dX4_shiftLine_41 : decode cX4_shiftLine 41 = .ok (.aload_n 0, 1) := dk_42 (dk_at dksX4_shiftLine_1 18 rfl rfl)
theorem dX4_shiftLine_42 : decode cX4_shiftLine 42 = .ok (.iconst 0, 1) := dk_3 (dk_at dksX4_shiftLine_1 19 rfl rfl)
theorem dX4_shiftLine_43 : decode cX4_shiftLine 43 = .ok (.bipush 47, 2) := dk_16 47 (dk_at dksX4_shiftLine_1 20 rfl rfl)
theorem dX4_shiftLine_45 : decode cX4_shiftLine 45 = .ok (.invokevirtual 90, 3) := dk_182 0 90 (dk_at dksX4_shiftLine_2 0 rfl rfl)
theorem dX4_shiftLine_48 : decode cX4_shiftLine 48 = .ok (.istore_n 2, 1) := dk_61 (dk_at dksX4_shiftLine_2 3 rfl rfl)
theorem dX4_shiftLine_49 : decode cX4_shiftLine 49 = .ok (.new 104, 3) := dk_187 0 104 (dk_at dksX4_shiftLine_2 4 rfl rfl)
theorem dX4_shiftLine_52 : decode cX4_shiftLine 52 = .ok (.dup, 1) := dk_89 (dk_at dksX4_shiftLine_2 7 rfl rfl)
theorem dX4_shiftLine_53 : decode cX4_shiftLine 53 = .ok (.iload_n 1, 1) := dk_27 (dk_at dksX4_shiftLine_2 8 rfl rfl)
theorem dX4_shiftLine_54 : decode cX4_shiftLine 54 = .ok (.iload_n 2, 1) := dk_28 (dk_at dksX4_shiftLine_2 9 rfl rfl)
theorem dX4_shiftLine_55 : decode cX4_shiftLine 55 = .ok (.aload_n 0, 1) := dk_42 (dk_at dksX4_shiftLine_2 10 rfl rfl)
theorem dX4_shiftLine_56 : decode cX4_shiftLine 56 = .ok (.iload_n 2, 1) := dk_28 (dk_at dksX4_shiftLine_2 11 rfl rfl)
theorem dX4_shiftLine_57 : decode cX4_shiftLine 57 = .ok (.bipush 47, 2) := dk_16 47 (dk_at dksX4_shiftLine_2 12 rfl rfl)
theorem dX4_shiftLine_59 : decode cX4_shiftLine 59 = .ok (.invokevirtual 90, 3) := dk_182 0 90 (dk_at dksX4_shiftLine_2 14 rfl rfl)
theorem dX4_shiftLine_62 : decode cX4_shiftLine 62 = .ok (.invokespecial 106, 3) := dk_183 0 106 (dk_at dksX4_shiftLine_2 17 rfl rfl)
theorem dX4_shiftLine_65 : decode cX4_shiftLine 65 = .ok (.astore_n 3, 1) := dk_78 (dk_at dksX4_shiftLine_2 20 rfl rfl)
theorem dX4_shiftLine_66 : decode cX4_shiftLine 66 = .ok (.aload_n 0, 1) := dk_42 (dk_at dksX4_shiftLine_2 21 rfl rfl)
theorem dX4_shiftLine_67 : decode cX4_shiftLine 67 = .ok (.getfield 18, 3) := dk_180 0 18 (dk_at dksX4_shiftLine_3 0 rfl rfl)
theorem dX4_shiftLine_70 : decode cX4_shiftLine 70 = .ok (.aload_n 3, 1) := dk_45 (dk_at dksX4_shiftLine_3 3 rfl rfl)
theorem dX4_shiftLine_71 : decode cX4_shiftLine 71 = .ok (.invokevirtual 109, 3) := dk_182 0 109 (dk_at dksX4_shiftLine_3 4 rfl rfl)
theorem dX4_shiftLine_74 : decode cX4_shiftLine 74 = .ok (.aload_n 0, 1) := dk_42 (dk_at dksX4_shiftLine_3 7 rfl rfl)
theorem dX4_shiftLine_75 : decode cX4_shiftLine 75 = .ok (.ldc 113, 2) := dk_18 113 (dk_at dksX4_shiftLine_3 8 rfl rfl)
theorem dX4_shiftLine_77 : decode cX4_shiftLine 77 = .ok (.invokevirtual 115, 3) := dk_182 0 115 (dk_at dksX4_shiftLine_3 10 rfl rfl)
theorem dX4_shiftLine_80 : decode cX4_shiftLine 80 = .ok (.ifCond .eq 126, 3) := dk_153 0 126 (dk_at dksX4_shiftLine_3 13 rfl rfl)
theorem dX4_shiftLine_83 : decode cX4_shiftLine 83 = .ok (.aload_n 0, 1) := dk_42 (dk_at dksX4_shiftLine_3 16 rfl rfl)
theorem dX4_shiftLine_84 : decode cX4_shiftLine 84 = .ok (.aload_n 3, 1) := dk_45 (dk_at dksX4_shiftLine_3 17 rfl rfl)
theorem dX4_shiftLine_85 : decode cX4_shiftLine 85 = .ok (.getfield 119, 3) := dk_180 0 119 (dk_at dksX4_shiftLine_3 18 rfl rfl)
theorem dX4_shiftLine_88 : decode cX4_shiftLine 88 = .ok (.iconst 3, 1) := dk_6 (dk_at dksX4_shiftLine_3 21 rfl rfl)
theorem dX4_shiftLine_89 : decode cX4_shiftLine 89 = .ok (.if_icmp .ge 7, 3) := dk_162 0 7 (dk_at dksX4_shiftLine_4 0 rfl rfl)
theorem dX4_shiftLine_92 : decode cX4_shiftLine 92 = .ok (.iconst 1, 1) := dk_4 (dk_at dksX4_shiftLine_4 3 rfl rfl)
theorem dX4_shiftLine_93 : decode cX4_shiftLine 93 = .ok (.goto 4, 3) := dk_167 0 4 (dk_at dksX4_shiftLine_4 4 rfl rfl)
theorem dX4_shiftLine_96 : decode cX4_shiftLine 96 = .ok (.iconst 0, 1) := dk_3 (dk_at dksX4_shiftLine_4 7 rfl rfl)
theorem dX4_shiftLine_97 : decode cX4_shiftLine 97 = .ok (.iconst 3, 1) := dk_6 (dk_at dksX4_shiftLine_4 8 rfl rfl)
theorem dX4_shiftLine_98 : decode cX4_shiftLine 98 = .ok (.invokevirtual 74, 3) := dk_182 0 74 (dk_at dksX4_shiftLine_4 9 rfl rfl)
theorem dX4_shiftLine_101 : decode cX4_shiftLine 101 = .ok (.aload_n 0, 1) := dk_42 (dk_at dksX4_shiftLine_4 12 rfl rfl)
theorem dX4_shiftLine_102 : decode cX4_shiftLine 102 = .ok (.invokevirtual 78, 3) := dk_182 0 78 (dk_at dksX4_shiftLine_4 13 rfl rfl)
theorem dX4_shiftLine_105 : decode cX4_shiftLine 105 = .ok (.aload_n 0, 1) := dk_42 (dk_at dksX4_shiftLine_4 16 rfl rfl)
theorem dX4_shiftLine_106 : decode cX4_shiftLine 106 = .ok (.iconst 1, 1) := dk_4 (dk_at dksX4_shiftLine_4 17 rfl rfl)
theorem dX4_shiftLine_107 : decode cX4_shiftLine 107 = .ok (.iconst 4, 1) := dk_7 (dk_at dksX4_shiftLine_4 18 rfl rfl)
theorem dX4_shiftLine_108 : decode cX4_shiftLine 108 = .ok (.invokevirtual 90, 3) := dk_182 0 90 (dk_at dksX4_shiftLine_4 19 rfl rfl)
theorem dX4_shiftLine_111 : decode cX4_shiftLine 111 = .ok (.istore 4, 2) := dk_54 4 (dk_at dksX4_shiftLine_4 22 rfl rfl)
theorem dX4_shiftLine_113 : decode cX4_shiftLine 113 = .ok (.aload_n 0, 1) := dk_42 (dk_at dksX4_shiftLine_5 0 rfl rfl)
theorem dX4_shiftLine_114 : decode cX4_shiftLine 114 = .ok (.aload_n 3, 1) := dk_45 (dk_at dksX4_shiftLine_5 1 rfl rfl)
theorem dX4_shiftLine_115 : decode cX4_shiftLine 115 = .ok (.getfield 122, 3) := dk_180 0 122 (dk_at dksX4_shiftLine_5 2 rfl rfl)
theorem dX4_shiftLine_118 : decode cX4_shiftLine 118 = .ok (.aload_n 3, 1) := dk_45 (dk_at dksX4_shiftLine_5 5 rfl rfl)
theorem dX4_shiftLine_119 : decode cX4_shiftLine 119 = .ok (.getfield 125, 3) := dk_180 0 125 (dk_at dksX4_shiftLine_5 6 rfl rfl)
theorem dX4_shiftLine_122 : decode cX4_shiftLine 122 = .ok (.invokevirtual 90, 3) := dk_182 0 90 (dk_at dksX4_shiftLine_5 9 rfl rfl)
theorem dX4_shiftLine_125 : decode cX4_shiftLine 125 = .ok (.istore 5, 2) := dk_54 5 (dk_at dksX4_shiftLine_5 12 rfl rfl)
theorem dX4_shiftLine_127 : decode cX4_shiftLine 127 = .ok (.aload_n 0, 1) := dk_42 (dk_at dksX4_shiftLine_5 14 rfl rfl)
theorem dX4_shiftLine_128 : decode cX4_shiftLine 128 = .ok (.iload 5, 2) := dk_21 5 (dk_at dksX4_shiftLine_5 15 rfl rfl)
theorem dX4_shiftLine_130 : decode cX4_shiftLine 130 = .ok (.aload_n 3, 1) := dk_45 (dk_at dksX4_shiftLine_5 17 rfl rfl)
theorem dX4_shiftLine_131 : decode cX4_shiftLine 131 = .ok (.getfield 125, 3) := dk_180 0 125 (dk_at dksX4_shiftLine_5 18 rfl rfl)
theorem dX4_shiftLine_134 : decode cX4_shiftLine 134 = .ok (.iload 4, 2) := dk_21 4 (dk_at dksX4_shiftLine_5 21 rfl rfl)
theorem dX4_shiftLine_136 : decode cX4_shiftLine 136 = .ok (.isub, 1) := dk_100 (dk_at dksX4_shiftLine_5 23 rfl rfl)
theorem dX4_shiftLine_137 : decode cX4_shiftLine 137 = .ok (.iconst 1, 1) := dk_4 (dk_at dksX4_shiftLine_6 0 rfl rfl)
theorem dX4_shiftLine_138 : decode cX4_shiftLine 138 = .ok (.iadd, 1) := dk_96 (dk_at dksX4_shiftLine_6 1 rfl rfl)
theorem dX4_shiftLine_139 : decode cX4_shiftLine 139 = .ok (.invokevirtual 90, 3) := dk_182 0 90 (dk_at dksX4_shiftLine_6 2 rfl rfl)
theorem dX4_shiftLine_142 : decode cX4_shiftLine 142 = .ok (.istore 6, 2) := dk_54 6 (dk_at dksX4_shiftLine_6 5 rfl rfl)
theorem dX4_shiftLine_144 : decode cX4_shiftLine 144 = .ok (.aload_n 0, 1) := dk_42 (dk_at dksX4_shiftLine_6 7 rfl rfl)
theorem dX4_shiftLine_145 : decode cX4_shiftLine 145 = .ok (.getfield 18, 3) := dk_180 0 18 (dk_at dksX4_shiftLine_6 8 rfl rfl)
theorem dX4_shiftLine_148 : decode cX4_shiftLine 148 = .ok (.iload 5, 2) := dk_21 5 (dk_at dksX4_shiftLine_6 11 rfl rfl)
theorem dX4_shiftLine_150 : decode cX4_shiftLine 150 = .ok (.iload 6, 2) := dk_21 6 (dk_at dksX4_shiftLine_6 13 rfl rfl)
theorem dX4_shiftLine_152 : decode cX4_shiftLine 152 = .ok (.if_icmp .ne 26, 3) := dk_160 0 26 (dk_at dksX4_shiftLine_6 15 rfl rfl)
theorem dX4_shiftLine_155 : decode cX4_shiftLine 155 = .ok (.new 128, 3) := dk_187 0 128 (dk_at dksX4_shiftLine_6 18 rfl rfl)
theorem dX4_shiftLine_158 : decode cX4_shiftLine 158 = .ok (.dup, 1) := dk_89 (dk_at dksX4_shiftLine_6 21 rfl rfl)
theorem dX4_shiftLine_159 : decode cX4_shiftLine 159 = .ok (.aload_n 0, 1) := dk_42 (dk_at dksX4_shiftLine_6 22 rfl rfl)
theorem dX4_shiftLine_160 : decode cX4_shiftLine 160 = .ok (.getfield 18, 3) := dk_180 0 18 (dk_at dksX4_shiftLine_7 0 rfl rfl)
theorem dX4_shiftLine_163 : decode cX4_shiftLine 163 = .ok (.getfield 101, 3) := dk_180 0 101 (dk_at dksX4_shiftLine_7 3 rfl rfl)
theorem dX4_shiftLine_166 : decode cX4_shiftLine 166 = .ok (.iconst 1, 1) := dk_4 (dk_at dksX4_shiftLine_7 6 rfl rfl)
theorem dX4_shiftLine_167 : decode cX4_shiftLine 167 = .ok (.isub, 1) := dk_100 (dk_at dksX4_shiftLine_7 7 rfl rfl)
theorem dX4_shiftLine_168 : decode cX4_shiftLine 168 = .ok (.iload 4, 2) := dk_21 4 (dk_at dksX4_shiftLine_7 8 rfl rfl)
theorem dX4_shiftLine_170 : decode cX4_shiftLine 170 = .ok (.iload 5, 2) := dk_21 5 (dk_at dksX4_shiftLine_7 10 rfl rfl)
theorem dX4_shiftLine_172 : decode cX4_shiftLine 172 = .ok (.invokespecial 130, 3) := dk_183 0 130 (dk_at dksX4_shiftLine_7 12 rfl rfl)
theorem dX4_shiftLine_175 : decode cX4_shiftLine 175 = .ok (.goto 25, 3) := dk_167 0 25 (dk_at dksX4_shiftLine_7 15 rfl rfl)
theorem dX4_shiftLine_178 : decode cX4_shiftLine 178 = .ok (.new 128, 3) := dk_187 0 128 (dk_at dksX4_shiftLine_7 18 rfl rfl)
theorem dX4_shiftLine_181 : decode cX4_shiftLine 181 = .ok (.dup, 1) := dk_89 (dk_at dksX4_shiftLine_7 21 rfl rfl)
theorem dX4_shiftLine_182 : decode cX4_shiftLine 182 = .ok (.aload_n 0, 1) := dk_42 (dk_at dksX4_shiftLine_7 22 rfl rfl)
theorem dX4_shiftLine_183 : decode cX4_shiftLine 183 = .ok (.getfield 18, 3) := dk_180 0 18 (dk_at dksX4_shiftLine_8 0 rfl rfl)
theorem dX4_shiftLine_186 : decode cX4_shiftLine 186 = .ok (.getfield 101, 3) := dk_180 0 101 (dk_at dksX4_shiftLine_8 3 rfl rfl)
theorem dX4_shiftLine_189 : decode cX4_shiftLine 189 = .ok (.iconst 1, 1) := dk_4 (dk_at dksX4_shiftLine_8 6 rfl rfl)
theorem dX4_shiftLine_190 : decode cX4_shiftLine 190 = .ok (.isub, 1) := dk_100 (dk_at dksX4_shiftLine_8 7 rfl rfl)
theorem dX4_shiftLine_191 : decode cX4_shiftLine 191 = .ok (.iload 4, 2) := dk_21 4 (dk_at dksX4_shiftLine_8 8 rfl rfl)
theorem dX4_shiftLine_193 : decode cX4_shiftLine 193 = .ok (.iload 5, 2) := dk_21 5 (dk_at dksX4_shiftLine_8 10 rfl rfl)
theorem dX4_shiftLine_195 : decode cX4_shiftLine 195 = .ok (.iload 6, 2) := dk_21 6 (dk_at dksX4_shiftLine_8 12 rfl rfl)
theorem dX4_shiftLine_197 : decode cX4_shiftLine 197 = .ok (.invokespecial 131, 3) := dk_183 0 131 (dk_at dksX4_shiftLine_8 14 rfl rfl)
theorem dX4_shiftLine_200 : decode cX4_shiftLine 200 = .ok (.invokevirtual 134, 3) := dk_182 0 134 (dk_at dksX4_shiftLine_8 17 rfl rfl)
theorem dX4_shiftLine_203 : decode cX4_shiftLine 203 = .ok (.goto (-129), 3) := dk_167 255 127 (dk_at dksX4_shiftLine_8 20 rfl rfl)
theorem dX4_shiftLine_206 : decode cX4_shiftLine 206 = .ok (.aload_n 0, 1) := dk_42 (dk_at dksX4_shiftLine_8 23 rfl rfl)
theorem dX4_shiftLine_207 : decode cX4_shiftLine 207 = .ok (.invokevirtual 98, 3) := dk_182 0 98 (dk_at dksX4_shiftLine_9 0 rfl rfl)
theorem dX4_shiftLine_210 : decode cX4_shiftLine 210 = .ok (.return_, 1) := dk_177 (dk_at dksX4_shiftLine_9 3 rfl rfl)
theorem q75 : (Jvm.Cond.initialized "BreakSetter$Reader") ∈ lw_all := lw_g (lw_at lw_m1 5 rfl) rfl
theorem q131 : (Jvm.Cond.fieldLinkNest "BreakSetter$Reader" (87 : Nat) "BreakSetter$Plan" "posts" "I" "BreakSetter") ∈ lw_tbl := lw_at lw_m1 61 rfl
theorem q133 : (Jvm.Cond.fieldLinkNest "BreakSetter$Reader" (138 : Nat) "BreakSetter$Plan" "walk" "I" "BreakSetter") ∈ lw_tbl := lw_at lw_m1 63 rfl
theorem q136 : (Jvm.Cond.fieldLinkNest "BreakSetter$Reader" (101 : Nat) "BreakSetter$Plan" "shifts" "I" "BreakSetter") ∈ lw_tbl := lw_at lw_m1 66 rfl
theorem q140 : (Jvm.Cond.fieldLinkNest "BreakSetter$Reader" (84 : Nat) "BreakSetter$Plan" "needs" "I" "BreakSetter") ∈ lw_tbl := lw_at lw_m1 70 rfl
theorem q147 : (Jvm.Cond.fieldLinkNest "BreakSetter$Reader" (94 : Nat) "BreakSetter$Plan" "need" "[I" "BreakSetter") ∈ lw_tbl := lw_at lw_m1 77 rfl
theorem q180 : (Jvm.Cond.fieldLinkNest "BreakSetter$Reader" (29 : Nat) "BreakSetter" "tape" "[B" "BreakSetter") ∈ lw_tbl := lw_at lw_m1 110 rfl
theorem q182 : (Jvm.Cond.fieldLinkNest "BreakSetter$Reader" (26 : Nat) "BreakSetter" "size" "I" "BreakSetter") ∈ lw_tbl := lw_at lw_m1 112 rfl
theorem q888 : (Jvm.Cond.selects "BreakSetter$Reader" ({ cls := "java/lang/Object", name := "getClass", desc := "()Ljava/lang/Class;" } : Jvm.MethodName) ({ cls := "java/lang/Object", name := "getClass", desc := "()Ljava/lang/Class;" } : Jvm.MethodName)) ∈ lw_all := lw_g (lw_at lw_m4 98 rfl) rfl
theorem q1032 : (Jvm.Cond.instantiable "BreakSetter$Reader" (7 : Nat)) ∈ lw_all := lw_g (lw_at lw_m5 2 rfl) rfl
theorem q1034 : (Jvm.Cond.instanceMethod ({ cls := "BreakSetter$Reader", name := "<init>", desc := "(LBreakSetter;)V" } : Jvm.MethodName)) ∈ lw_all := lw_g (lw_at lw_m5 4 rfl) rfl
theorem q1035 : (Jvm.Cond.code ({ cls := "BreakSetter$Reader", name := "<init>", desc := "(LBreakSetter;)V" } : Jvm.MethodName) prog_5_method_1_code (2 : Nat) (Option.none : Option Jvm.ClassFile.FieldType)) ∈ lw_all := lw_g (lw_at lw_m5 5 rfl) rfl
theorem q1036 : (Jvm.Cond.methodLink "BreakSetter$Reader" (9 : Nat) ({ cls := "java/lang/Object", name := "<init>", desc := "()V" } : Jvm.MethodName)) ∈ lw_all := lw_g (lw_at lw_m5 6 rfl) rfl
theorem q1037 : (Jvm.Cond.classLink "BreakSetter$Reader" (15 : Nat) "BreakSetter$Plan") ∈ lw_all := lw_g (lw_at lw_m5 7 rfl) rfl
theorem q1038 : (Jvm.Cond.methodLinkNest "BreakSetter$Reader" (17 : Nat) ({ cls := "BreakSetter$Plan", name := "<init>", desc := "()V" } : Jvm.MethodName) "BreakSetter") ∈ lw_tbl := lw_at lw_m5 8 rfl
theorem q1039 : (Jvm.Cond.fieldLink "BreakSetter$Reader" (22 : Nat) "BreakSetter$Reader" "p" "I") ∈ lw_all := lw_g (lw_at lw_m5 9 rfl) rfl
theorem q1040 : (Jvm.Cond.fieldLink "BreakSetter$Reader" (41 : Nat) "BreakSetter$Reader" "at" "I") ∈ lw_all := lw_g (lw_at lw_m5 10 rfl) rfl
theorem q1041 : (Jvm.Cond.fieldLink "BreakSetter$Reader" (44 : Nat) "BreakSetter$Reader" "token" "I") ∈ lw_all := lw_g (lw_at lw_m5 11 rfl) rfl
theorem q1042 : (Jvm.Cond.fieldLink "BreakSetter$Reader" (57 : Nat) "BreakSetter$Reader" "value" "I") ∈ lw_all := lw_g (lw_at lw_m5 12 rfl) rfl
theorem q1043 : (Jvm.Cond.fieldLink "BreakSetter$Reader" (81 : Nat) "BreakSetter$Reader" "lines" "I") ∈ lw_all := lw_g (lw_at lw_m5 13 rfl) rfl
theorem q1045 : (Jvm.Cond.fieldLink "BreakSetter$Reader" (18 : Nat) "BreakSetter$Reader" "made" "LBreakSetter$Plan;") ∈ lw_all := lw_g (lw_at lw_m5 15 rfl) rfl
theorem q1046 : (Jvm.Cond.fieldLink "BreakSetter$Reader" (3 : Nat) "BreakSetter$Reader" "this$0" "LBreakSetter;") ∈ lw_all := lw_g (lw_at lw_m5 16 rfl) rfl
theorem q1047 : (Jvm.Cond.lays "BreakSetter$Reader" "BreakSetter$Reader" "p" "I") ∈ lw_all := lw_g (lw_at lw_m5 17 rfl) rfl
theorem q1048 : (Jvm.Cond.soleField "BreakSetter$Reader" "p") ∈ lw_all := lw_g (lw_at lw_m5 18 rfl) rfl
theorem q1049 : (Jvm.Cond.lays "BreakSetter$Reader" "BreakSetter$Reader" "at" "I") ∈ lw_all := lw_g (lw_at lw_m5 19 rfl) rfl
theorem q1050 : (Jvm.Cond.soleField "BreakSetter$Reader" "at") ∈ lw_all := lw_g (lw_at lw_m5 20 rfl) rfl
theorem q1051 : (Jvm.Cond.lays "BreakSetter$Reader" "BreakSetter$Reader" "token" "I") ∈ lw_all := lw_g (lw_at lw_m5 21 rfl) rfl
theorem q1052 : (Jvm.Cond.soleField "BreakSetter$Reader" "token") ∈ lw_all := lw_g (lw_at lw_m5 22 rfl) rfl
theorem q1053 : (Jvm.Cond.lays "BreakSetter$Reader" "BreakSetter$Reader" "value" "I") ∈ lw_all := lw_g (lw_at lw_m5 23 rfl) rfl
theorem q1054 : (Jvm.Cond.soleField "BreakSetter$Reader" "value") ∈ lw_all := lw_g (lw_at lw_m5 24 rfl) rfl
theorem q1055 : (Jvm.Cond.lays "BreakSetter$Reader" "BreakSetter$Reader" "lines" "I") ∈ lw_all := lw_g (lw_at lw_m5 25 rfl) rfl
theorem q1056 : (Jvm.Cond.soleField "BreakSetter$Reader" "lines") ∈ lw_all := lw_g (lw_at lw_m5 26 rfl) rfl
theorem q1057 : (Jvm.Cond.laysFinal "BreakSetter$Reader" "BreakSetter$Reader" "made" "LBreakSetter$Plan;") ∈ lw_all := lw_g (lw_at lw_m5 27 rfl) rfl
theorem q1058 : (Jvm.Cond.soleField "BreakSetter$Reader" "made") ∈ lw_all := lw_g (lw_at lw_m5 28 rfl) rfl
theorem q1059 : (Jvm.Cond.laysFinal "BreakSetter$Reader" "BreakSetter$Reader" "this$0" "LBreakSetter;") ∈ lw_all := lw_g (lw_at lw_m5 29 rfl) rfl
theorem q1060 : (Jvm.Cond.soleField "BreakSetter$Reader" "this$0") ∈ lw_all := lw_g (lw_at lw_m5 30 rfl) rfl
theorem q1061 : (Jvm.Cond.superclass "BreakSetter$Reader" "java/lang/Object") ∈ lw_all := lw_g (lw_at lw_m5 31 rfl) rfl
theorem q1063 : (Jvm.Cond.instanceMethod ({ cls := "BreakSetter$Reader", name := "whole", desc := "()LBreakSetter$Plan;" } : Jvm.MethodName)) ∈ lw_all := lw_g (lw_at lw_m5 33 rfl) rfl
theorem q1064 : (Jvm.Cond.selects "BreakSetter$Reader" ({ cls := "BreakSetter$Reader", name := "whole", desc := "()LBreakSetter$Plan;" } : Jvm.MethodName) ({ cls := "BreakSetter$Reader", name := "whole", desc := "()LBreakSetter$Plan;" } : Jvm.MethodName)) ∈ lw_all := lw_g (lw_at lw_m5 34 rfl) rfl
theorem q1065 : (Jvm.Cond.code ({ cls := "BreakSetter$Reader", name := "whole", desc := "()LBreakSetter$Plan;" } : Jvm.MethodName) prog_5_method_13_code (1 : Nat) (Option.some (Jvm.ClassFile.FieldType.object "BreakSetter$Plan"))) ∈ lw_all := lw_g (lw_at lw_m5 35 rfl) rfl
theorem q1066 : (Jvm.Cond.methodLink "BreakSetter$Reader" (78 : Nat) ({ cls := "BreakSetter$Reader", name := "next", desc := "()V" } : Jvm.MethodName)) ∈ lw_all := lw_g (lw_at lw_m5 36 rfl) rfl
theorem q1067 : (Jvm.Cond.privateMethod ({ cls := "BreakSetter$Reader", name := "next", desc := "()V" } : Jvm.MethodName)) ∈ lw_tbl := lw_at lw_m5 37 rfl
theorem q1068 : (Jvm.Cond.instanceMethod ({ cls := "BreakSetter$Reader", name := "next", desc := "()V" } : Jvm.MethodName)) ∈ lw_all := lw_g (lw_at lw_m5 38 rfl) rfl
theorem q1069 : (Jvm.Cond.code ({ cls := "BreakSetter$Reader", name := "next", desc := "()V" } : Jvm.MethodName) prog_5_method_5_code (1 : Nat) (Option.none : Option Jvm.ClassFile.FieldType)) ∈ lw_all := lw_g (lw_at lw_m5 39 rfl) rfl
theorem q1070 : (Jvm.Cond.methodLink "BreakSetter$Reader" (33 : Nat) ({ cls := "BreakSetter$Reader", name := "peek", desc := "()I" } : Jvm.MethodName)) ∈ lw_all := lw_g (lw_at lw_m5 40 rfl) rfl
theorem q1071 : (Jvm.Cond.privateMethod ({ cls := "BreakSetter$Reader", name := "peek", desc := "()I" } : Jvm.MethodName)) ∈ lw_tbl := lw_at lw_m5 41 rfl
theorem q1072 : (Jvm.Cond.instanceMethod ({ cls := "BreakSetter$Reader", name := "peek", desc := "()I" } : Jvm.MethodName)) ∈ lw_all := lw_g (lw_at lw_m5 42 rfl) rfl
theorem q1073 : (Jvm.Cond.code ({ cls := "BreakSetter$Reader", name := "peek", desc := "()I" } : Jvm.MethodName) prog_5_method_2_code (1 : Nat) (Option.some Jvm.ClassFile.FieldType.int)) ∈ lw_all := lw_g (lw_at lw_m5 43 rfl) rfl
theorem q1074 : (Jvm.Cond.methodLink "BreakSetter$Reader" (47 : Nat) ({ cls := "BreakSetter$Reader", name := "isSmall", desc := "()Z" } : Jvm.MethodName)) ∈ lw_all := lw_g (lw_at lw_m5 44 rfl) rfl
theorem q1075 : (Jvm.Cond.privateMethod ({ cls := "BreakSetter$Reader", name := "isSmall", desc := "()Z" } : Jvm.MethodName)) ∈ lw_tbl := lw_at lw_m5 45 rfl
theorem q1076 : (Jvm.Cond.instanceMethod ({ cls := "BreakSetter$Reader", name := "isSmall", desc := "()Z" } : Jvm.MethodName)) ∈ lw_all := lw_g (lw_at lw_m5 46 rfl) rfl
theorem q1077 : (Jvm.Cond.code ({ cls := "BreakSetter$Reader", name := "isSmall", desc := "()Z" } : Jvm.MethodName) prog_5_method_3_code (1 : Nat) (Option.some Jvm.ClassFile.FieldType.boolean)) ∈ lw_all := lw_g (lw_at lw_m5 47 rfl) rfl
theorem q1078 : (Jvm.Cond.methodLinkNest "BreakSetter$Reader" (37 : Nat) ({ cls := "BreakSetter", name := "isIn", desc := "(III)Z" } : Jvm.MethodName) "BreakSetter") ∈ lw_tbl := lw_at lw_m5 48 rfl
theorem q1079 : (Jvm.Cond.methodLink "BreakSetter$Reader" (51 : Nat) ({ cls := "BreakSetter$Reader", name := "isDigit", desc := "()Z" } : Jvm.MethodName)) ∈ lw_all := lw_g (lw_at lw_m5 49 rfl) rfl
theorem q1080 : (Jvm.Cond.privateMethod ({ cls := "BreakSetter$Reader", name := "isDigit", desc := "()Z" } : Jvm.MethodName)) ∈ lw_tbl := lw_at lw_m5 50 rfl
theorem q1081 : (Jvm.Cond.instanceMethod ({ cls := "BreakSetter$Reader", name := "isDigit", desc := "()Z" } : Jvm.MethodName)) ∈ lw_all := lw_g (lw_at lw_m5 51 rfl) rfl
theorem q1082 : (Jvm.Cond.code ({ cls := "BreakSetter$Reader", name := "isDigit", desc := "()Z" } : Jvm.MethodName) prog_5_method_4_code (1 : Nat) (Option.some Jvm.ClassFile.FieldType.boolean)) ∈ lw_all := lw_g (lw_at lw_m5 52 rfl) rfl
theorem q1083 : (Jvm.Cond.methodLink "BreakSetter$Reader" (54 : Nat) ({ cls := "BreakSetter$Reader", name := "runs", desc := "()V" } : Jvm.MethodName)) ∈ lw_all := lw_g (lw_at lw_m5 53 rfl) rfl
theorem q1084 : (Jvm.Cond.privateMethod ({ cls := "BreakSetter$Reader", name := "runs", desc := "()V" } : Jvm.MethodName)) ∈ lw_tbl := lw_at lw_m5 54 rfl
theorem q1085 : (Jvm.Cond.instanceMethod ({ cls := "BreakSetter$Reader", name := "runs", desc := "()V" } : Jvm.MethodName)) ∈ lw_all := lw_g (lw_at lw_m5 55 rfl) rfl
theorem q1086 : (Jvm.Cond.code ({ cls := "BreakSetter$Reader", name := "runs", desc := "()V" } : Jvm.MethodName) prog_5_method_6_code (3 : Nat) (Option.none : Option Jvm.ClassFile.FieldType)) ∈ lw_all := lw_g (lw_at lw_m5 56 rfl) rfl
theorem q1087 : (Jvm.Cond.stringRef "BreakSetter$Reader" (137 : Nat) "posts") ∈ lw_tbl := lw_at lw_m5 57 rfl
theorem q1088 : (Jvm.Cond.methodLink "BreakSetter$Reader" (115 : Nat) ({ cls := "BreakSetter$Reader", name := "is", desc := "(Ljava/lang/String;)Z" } : Jvm.MethodName)) ∈ lw_all := lw_g (lw_at lw_m5 58 rfl) rfl
theorem q1089 : (Jvm.Cond.privateMethod ({ cls := "BreakSetter$Reader", name := "is", desc := "(Ljava/lang/String;)Z" } : Jvm.MethodName)) ∈ lw_tbl := lw_at lw_m5 59 rfl
theorem q1090 : (Jvm.Cond.instanceMethod ({ cls := "BreakSetter$Reader", name := "is", desc := "(Ljava/lang/String;)Z" } : Jvm.MethodName)) ∈ lw_all := lw_g (lw_at lw_m5 60 rfl) rfl
theorem q1091 : (Jvm.Cond.code ({ cls := "BreakSetter$Reader", name := "is", desc := "(Ljava/lang/String;)Z" } : Jvm.MethodName) prog_5_method_8_code (4 : Nat) (Option.some Jvm.ClassFile.FieldType.boolean)) ∈ lw_all := lw_g (lw_at lw_m5 61 rfl) rfl
theorem q1092 : (Jvm.Cond.methodLink "BreakSetter$Reader" (65 : Nat) ({ cls := "java/lang/String", name := "length", desc := "()I" } : Jvm.MethodName)) ∈ lw_all := lw_g (lw_at lw_m5 62 rfl) rfl
theorem q1093 : (Jvm.Cond.methodLink "BreakSetter$Reader" (70 : Nat) ({ cls := "java/lang/String", name := "charAt", desc := "(I)C" } : Jvm.MethodName)) ∈ lw_all := lw_g (lw_at lw_m5 63 rfl) rfl
theorem q1121 : (Jvm.Cond.methodLink "BreakSetter$Reader" (74 : Nat) ({ cls := "BreakSetter$Reader", name := "must", desc := "(ZI)V" } : Jvm.MethodName)) ∈ lw_all := lw_g (lw_at lw_m5 91 rfl) rfl
theorem q1122 : (Jvm.Cond.privateMethod ({ cls := "BreakSetter$Reader", name := "must", desc := "(ZI)V" } : Jvm.MethodName)) ∈ lw_tbl := lw_at lw_m5 92 rfl
theorem q1123 : (Jvm.Cond.instanceMethod ({ cls := "BreakSetter$Reader", name := "must", desc := "(ZI)V" } : Jvm.MethodName)) ∈ lw_all := lw_g (lw_at lw_m5 93 rfl) rfl
theorem q1124 : (Jvm.Cond.code ({ cls := "BreakSetter$Reader", name := "must", desc := "(ZI)V" } : Jvm.MethodName) prog_5_method_7_code (3 : Nat) (Option.none : Option Jvm.ClassFile.FieldType)) ∈ lw_all := lw_g (lw_at lw_m5 94 rfl) rfl
theorem q1125 : (Jvm.Cond.classLink "BreakSetter$Reader" (60 : Nat) "BreakSetter$Fault") ∈ lw_all := lw_g (lw_at lw_m5 95 rfl) rfl
theorem q1134 : (Jvm.Cond.methodLink "BreakSetter$Reader" (62 : Nat) ({ cls := "BreakSetter$Fault", name := "<init>", desc := "(II)V" } : Jvm.MethodName)) ∈ lw_all := lw_g (lw_at lw_m5 104 rfl) rfl
theorem q1153 : (Jvm.Cond.methodLink "BreakSetter$Reader" (90 : Nat) ({ cls := "BreakSetter$Reader", name := "number", desc := "(II)I" } : Jvm.MethodName)) ∈ lw_all := lw_g (lw_at lw_m5 123 rfl) rfl
theorem q1154 : (Jvm.Cond.privateMethod ({ cls := "BreakSetter$Reader", name := "number", desc := "(II)I" } : Jvm.MethodName)) ∈ lw_tbl := lw_at lw_m5 124 rfl
theorem q1155 : (Jvm.Cond.instanceMethod ({ cls := "BreakSetter$Reader", name := "number", desc := "(II)I" } : Jvm.MethodName)) ∈ lw_all := lw_g (lw_at lw_m5 125 rfl) rfl
theorem q1156 : (Jvm.Cond.code ({ cls := "BreakSetter$Reader", name := "number", desc := "(II)I" } : Jvm.MethodName) prog_5_method_9_code (4 : Nat) (Option.some Jvm.ClassFile.FieldType.int)) ∈ lw_all := lw_g (lw_at lw_m5 126 rfl) rfl
theorem q1157 : (Jvm.Cond.methodLink "BreakSetter$Reader" (98 : Nat) ({ cls := "BreakSetter$Reader", name := "shuts", desc := "()V" } : Jvm.MethodName)) ∈ lw_all := lw_g (lw_at lw_m5 127 rfl) rfl
theorem q1158 : (Jvm.Cond.privateMethod ({ cls := "BreakSetter$Reader", name := "shuts", desc := "()V" } : Jvm.MethodName)) ∈ lw_tbl := lw_at lw_m5 128 rfl
theorem q1159 : (Jvm.Cond.instanceMethod ({ cls := "BreakSetter$Reader", name := "shuts", desc := "()V" } : Jvm.MethodName)) ∈ lw_all := lw_g (lw_at lw_m5 129 rfl) rfl
theorem q1160 : (Jvm.Cond.code ({ cls := "BreakSetter$Reader", name := "shuts", desc := "()V" } : Jvm.MethodName) prog_5_method_10_code (1 : Nat) (Option.none : Option Jvm.ClassFile.FieldType)) ∈ lw_all := lw_g (lw_at lw_m5 130 rfl) rfl
theorem q1161 : (Jvm.Cond.stringRef "BreakSetter$Reader" (141 : Nat) "need") ∈ lw_tbl := lw_at lw_m5 131 rfl
theorem q1162 : (Jvm.Cond.methodLink "BreakSetter$Reader" (142 : Nat) ({ cls := "BreakSetter$Reader", name := "needLine", desc := "()V" } : Jvm.MethodName)) ∈ lw_all := lw_g (lw_at lw_m5 132 rfl) rfl
theorem q1163 : (Jvm.Cond.privateMethod ({ cls := "BreakSetter$Reader", name := "needLine", desc := "()V" } : Jvm.MethodName)) ∈ lw_tbl := lw_at lw_m5 133 rfl
theorem q1164 : (Jvm.Cond.instanceMethod ({ cls := "BreakSetter$Reader", name := "needLine", desc := "()V" } : Jvm.MethodName)) ∈ lw_all := lw_g (lw_at lw_m5 134 rfl) rfl
theorem q1165 : (Jvm.Cond.code ({ cls := "BreakSetter$Reader", name := "needLine", desc := "()V" } : Jvm.MethodName) prog_5_method_11_code (6 : Nat) (Option.none : Option Jvm.ClassFile.FieldType)) ∈ lw_all := lw_g (lw_at lw_m5 135 rfl) rfl
theorem q1166 : (Jvm.Cond.stringRef "BreakSetter$Reader" (145 : Nat) "shift") ∈ lw_tbl := lw_at lw_m5 136 rfl
theorem q1167 : (Jvm.Cond.methodLink "BreakSetter$Reader" (147 : Nat) ({ cls := "BreakSetter$Reader", name := "shiftLine", desc := "()V" } : Jvm.MethodName)) ∈ lw_all := lw_g (lw_at lw_m5 137 rfl) rfl
theorem q1168 : (Jvm.Cond.privateMethod ({ cls := "BreakSetter$Reader", name := "shiftLine", desc := "()V" } : Jvm.MethodName)) ∈ lw_tbl := lw_at lw_m5 138 rfl
theorem q1169 : (Jvm.Cond.instanceMethod ({ cls := "BreakSetter$Reader", name := "shiftLine", desc := "()V" } : Jvm.MethodName)) ∈ lw_all := lw_g (lw_at lw_m5 139 rfl) rfl
theorem q1170 : (Jvm.Cond.code ({ cls := "BreakSetter$Reader", name := "shiftLine", desc := "()V" } : Jvm.MethodName) prog_5_method_12_code (7 : Nat) (Option.none : Option Jvm.ClassFile.FieldType)) ∈ lw_all := lw_g (lw_at lw_m5 140 rfl) rfl
theorem q1171 : (Jvm.Cond.classLink "BreakSetter$Reader" (104 : Nat) "BreakSetter$Shift") ∈ lw_all := lw_g (lw_at lw_m5 141 rfl) rfl
theorem q1173 : (Jvm.Cond.methodLink "BreakSetter$Reader" (106 : Nat) ({ cls := "BreakSetter$Shift", name := "<init>", desc := "(III)V" } : Jvm.MethodName)) ∈ lw_all := lw_g (lw_at lw_m5 143 rfl) rfl
theorem q1182 : (Jvm.Cond.fieldLinkNest "BreakSetter$Reader" (122 : Nat) "BreakSetter$Shift" "from" "I" "BreakSetter") ∈ lw_tbl := lw_at lw_m5 152 rfl
theorem q1186 : (Jvm.Cond.fieldLinkNest "BreakSetter$Reader" (125 : Nat) "BreakSetter$Shift" "to" "I" "BreakSetter") ∈ lw_tbl := lw_at lw_m5 156 rfl
theorem q1189 : (Jvm.Cond.fieldLinkNest "BreakSetter$Reader" (119 : Nat) "BreakSetter$Shift" "pauses" "I" "BreakSetter") ∈ lw_tbl := lw_at lw_m5 159 rfl
theorem q1205 : (Jvm.Cond.methodLink "BreakSetter$Reader" (109 : Nat) ({ cls := "BreakSetter$Plan", name := "adds", desc := "(LBreakSetter$Shift;)V" } : Jvm.MethodName)) ∈ lw_all := lw_g (lw_at lw_m5 175 rfl) rfl
theorem q1209 : (Jvm.Cond.stringRef "BreakSetter$Reader" (113 : Nat) "pause") ∈ lw_tbl := lw_at lw_m5 179 rfl
theorem q1210 : (Jvm.Cond.classLink "BreakSetter$Reader" (128 : Nat) "BreakSetter$Pause") ∈ lw_all := lw_g (lw_at lw_m5 180 rfl) rfl
theorem q1212 : (Jvm.Cond.methodLink "BreakSetter$Reader" (130 : Nat) ({ cls := "BreakSetter$Pause", name := "<init>", desc := "(III)V" } : Jvm.MethodName)) ∈ lw_all := lw_g (lw_at lw_m5 182 rfl) rfl
theorem q1237 : (Jvm.Cond.methodLink "BreakSetter$Reader" (131 : Nat) ({ cls := "BreakSetter$Pause", name := "<init>", desc := "(IIII)V" } : Jvm.MethodName)) ∈ lw_all := lw_g (lw_at lw_m5 207 rfl) rfl
theorem q1238 : (Jvm.Cond.methodLink "BreakSetter$Reader" (134 : Nat) ({ cls := "BreakSetter$Plan", name := "adds", desc := "(LBreakSetter$Pause;)V" } : Jvm.MethodName)) ∈ lw_all := lw_g (lw_at lw_m5 208 rfl) rfl
theorem q1642 : (Jvm.Cond.castable "BreakSetter$Reader" "java/lang/Object") ∈ lw_tbl := lw_at lw_m7 132 rfl
theorem in_X4 : ∀ w ∈ wsX40, w ∈ lw_all := lw_in wsX40 [1047, 1049, 1051, 1053, 1055, 1057, 1059] (by decide +kernel) (by decide +kernel)

/-! BreakSetter$Fault -/
set_option maxRecDepth 100000
def RX5 : String := "BreakSetter$Fault"
def TX5 : u_T := fun k => match k with
  | 0 => ("java/lang/Throwable", "cause", "Ljava/lang/Throwable;", false)
  | 1 => ("java/lang/Throwable", "stackTrace", "[Ljava/lang/StackTraceElement;", false)
  | 2 => ("java/lang/Throwable", "suppressedExceptions", "Ljava/util/List;", false)
  | 3 => ("java/lang/Throwable", "detailMessage", "Ljava/lang/String;", false)
  | 4 => ("java/lang/Throwable", "backtrace", "Ljava/lang/Object;", false)
  | 5 => ("java/lang/Throwable", "depth", "I", false)
  | 6 => ("BreakSetter$Fault", "kind", "I", true)
  | _ => ("BreakSetter$Fault", "place", "I", true)
def tyX5 : Nat → FieldType := fun k => match k with
  | 0 => .object "java/lang/Throwable"
  | 1 => .array (.object "java/lang/StackTraceElement")
  | 2 => .object "java/util/List"
  | 3 => .object "java/lang/String"
  | 4 => .object "java/lang/Object"
  | 5 => .int
  | 6 => .int
  | _ => .int
abbrev wsX50 : List Cond := u_ws RX5 TX5 8
theorem nmX5 : ∀ a, a < 8 → ∀ b, b < 8 → a ≠ b → (TX5 a).2.1 ≠ (TX5 b).2.1 := by decide +kernel
theorem tyX5_ok : ∀ k, k < 8 → parseFieldDescriptor (TX5 k).2.2.1 = some (tyX5 k) := by decide +kernel
abbrev cX5_init : ByteArray := prog_2_method_1_code
def yX5_init : MethodName := ⟨RX5, "<init>", "(II)V"⟩
def dkwX5_init_0 : List UInt8 := [42, 1, 1, 3, 3, 183, 0, 1, 42, 27, 181, 0, 7, 42, 28, 181, 0, 13, 177]
abbrev dktX5_init_0 : List UInt8 := dkwX5_init_0 ++ []
theorem dksX5_init_0 : cX5_init.data.toList.drop 0 = dktX5_init_0 := by decide +kernel
theorem dX5_init_0 : decode cX5_init 0 = .ok (.aload_n 0, 1) := dk_42 (dk_at dksX5_init_0 0 rfl rfl)
theorem dX5_init_1 : decode cX5_init 1 = .ok (.aconst_null, 1) := dk_1 (dk_at dksX5_init_0 1 rfl rfl)
theorem dX5_init_2 : decode cX5_init 2 = .ok (.aconst_null, 1) := dk_1 (dk_at dksX5_init_0 2 rfl rfl)
theorem dX5_init_3 : decode cX5_init 3 = .ok (.iconst 0, 1) := dk_3 (dk_at dksX5_init_0 3 rfl rfl)
theorem dX5_init_4 : decode cX5_init 4 = .ok (.iconst 0, 1) := dk_3 (dk_at dksX5_init_0 4 rfl rfl)
theorem dX5_init_5 : decode cX5_init 5 = .ok (.invokespecial 1, 3) := dk_183 0 1 (dk_at dksX5_init_0 5 rfl rfl)
theorem dX5_init_8 : decode cX5_init 8 = .ok (.aload_n 0, 1) := dk_42 (dk_at dksX5_init_0 8 rfl rfl)
theorem dX5_init_9 : decode cX5_init 9 = .ok (.iload_n 1, 1) := dk_27 (dk_at dksX5_init_0 9 rfl rfl)
theorem dX5_init_10 : decode cX5_init 10 = .ok (.putfield 7, 3) := dk_181 0 7 (dk_at dksX5_init_0 10 rfl rfl)
theorem dX5_init_13 : decode cX5_init 13 = .ok (.aload_n 0, 1) := dk_42 (dk_at dksX5_init_0 13 rfl rfl)
theorem dX5_init_14 : decode cX5_init 14 = .ok (.iload_n 2, 1) := dk_28 (dk_at dksX5_init_0 14 rfl rfl)
theorem dX5_init_15 : decode cX5_init 15 = .ok (.putfield 13, 3) := dk_181 0 13 (dk_at dksX5_init_0 15 rfl rfl)
theorem dX5_init_18 : decode cX5_init 18 = .ok (.return_, 1) := dk_177 (dk_at dksX5_init_0 18 rfl rfl)
theorem q96 : (Jvm.Cond.initialized "BreakSetter$Fault") ∈ lw_all := lw_g (lw_at lw_m1 26 rfl) rfl
theorem q325 : (Jvm.Cond.selects "BreakSetter$Fault" ({ cls := "java/lang/Throwable", name := "addSuppressed", desc := "(Ljava/lang/Throwable;)V" } : Jvm.MethodName) ({ cls := "java/lang/Throwable", name := "addSuppressed", desc := "(Ljava/lang/Throwable;)V" } : Jvm.MethodName)) ∈ lw_all := lw_g (lw_at lw_m2 15 rfl) rfl
theorem q366 : (Jvm.Cond.selects "BreakSetter$Fault" ({ cls := "java/lang/Throwable", name := "fillInStackTrace", desc := "()Ljava/lang/Throwable;" } : Jvm.MethodName) ({ cls := "java/lang/Throwable", name := "fillInStackTrace", desc := "()Ljava/lang/Throwable;" } : Jvm.MethodName)) ∈ lw_all := lw_g (lw_at lw_m2 56 rfl) rfl
theorem q885 : (Jvm.Cond.selects "BreakSetter$Fault" ({ cls := "java/lang/Object", name := "getClass", desc := "()Ljava/lang/Class;" } : Jvm.MethodName) ({ cls := "java/lang/Object", name := "getClass", desc := "()Ljava/lang/Class;" } : Jvm.MethodName)) ∈ lw_all := lw_g (lw_at lw_m4 95 rfl) rfl
theorem q1126 : (Jvm.Cond.instantiable "BreakSetter$Fault" (8 : Nat)) ∈ lw_all := lw_g (lw_at lw_m5 96 rfl) rfl
theorem q1127 : (Jvm.Cond.castable "BreakSetter$Fault" "BreakSetter$Fault") ∈ lw_tbl := lw_at lw_m5 97 rfl
theorem q1128 : (Jvm.Cond.selects "BreakSetter$Fault" ({ cls := "java/lang/Throwable", name := "fillInStackTrace", desc := "(I)Ljava/lang/Throwable;" } : Jvm.MethodName) ({ cls := "java/lang/Throwable", name := "fillInStackTrace", desc := "(I)Ljava/lang/Throwable;" } : Jvm.MethodName)) ∈ lw_all := lw_g (lw_at lw_m5 98 rfl) rfl
theorem q1129 : (Jvm.Cond.lays "BreakSetter$Fault" "java/lang/Throwable" "cause" "Ljava/lang/Throwable;") ∈ lw_all := lw_g (lw_at lw_m5 99 rfl) rfl
theorem q1130 : (Jvm.Cond.lays "BreakSetter$Fault" "java/lang/Throwable" "stackTrace" "[Ljava/lang/StackTraceElement;") ∈ lw_all := lw_g (lw_at lw_m5 100 rfl) rfl
theorem q1131 : (Jvm.Cond.lays "BreakSetter$Fault" "java/lang/Throwable" "suppressedExceptions" "Ljava/util/List;") ∈ lw_all := lw_g (lw_at lw_m5 101 rfl) rfl
theorem q1132 : (Jvm.Cond.lays "BreakSetter$Fault" "java/lang/Throwable" "detailMessage" "Ljava/lang/String;") ∈ lw_all := lw_g (lw_at lw_m5 102 rfl) rfl
theorem q1133 : (Jvm.Cond.lays "BreakSetter$Fault" "java/lang/Throwable" "backtrace" "Ljava/lang/Object;") ∈ lw_all := lw_g (lw_at lw_m5 103 rfl) rfl
theorem q1135 : (Jvm.Cond.instanceMethod ({ cls := "BreakSetter$Fault", name := "<init>", desc := "(II)V" } : Jvm.MethodName)) ∈ lw_all := lw_g (lw_at lw_m5 105 rfl) rfl
theorem q1136 : (Jvm.Cond.code ({ cls := "BreakSetter$Fault", name := "<init>", desc := "(II)V" } : Jvm.MethodName) prog_2_method_1_code (3 : Nat) (Option.none : Option Jvm.ClassFile.FieldType)) ∈ lw_all := lw_g (lw_at lw_m5 106 rfl) rfl
theorem q1137 : (Jvm.Cond.methodLink "BreakSetter$Fault" (1 : Nat) ({ cls := "java/lang/Exception", name := "<init>", desc := "(Ljava/lang/String;Ljava/lang/Throwable;ZZ)V" } : Jvm.MethodName)) ∈ lw_all := lw_g (lw_at lw_m5 107 rfl) rfl
theorem q1143 : (Jvm.Cond.fieldLink "BreakSetter$Fault" (7 : Nat) "BreakSetter$Fault" "kind" "I") ∈ lw_all := lw_g (lw_at lw_m5 113 rfl) rfl
theorem q1145 : (Jvm.Cond.fieldLink "BreakSetter$Fault" (13 : Nat) "BreakSetter$Fault" "place" "I") ∈ lw_all := lw_g (lw_at lw_m5 115 rfl) rfl
theorem q1147 : (Jvm.Cond.laysFinal "BreakSetter$Fault" "BreakSetter$Fault" "kind" "I") ∈ lw_all := lw_g (lw_at lw_m5 117 rfl) rfl
theorem q1148 : (Jvm.Cond.soleField "BreakSetter$Fault" "kind") ∈ lw_all := lw_g (lw_at lw_m5 118 rfl) rfl
theorem q1149 : (Jvm.Cond.laysFinal "BreakSetter$Fault" "BreakSetter$Fault" "place" "I") ∈ lw_all := lw_g (lw_at lw_m5 119 rfl) rfl
theorem q1150 : (Jvm.Cond.soleField "BreakSetter$Fault" "place") ∈ lw_all := lw_g (lw_at lw_m5 120 rfl) rfl
theorem q1151 : (Jvm.Cond.lays "BreakSetter$Fault" "java/lang/Throwable" "depth" "I") ∈ lw_all := lw_g (lw_at lw_m5 121 rfl) rfl
theorem q1152 : (Jvm.Cond.superclass "BreakSetter$Fault" "java/lang/Exception") ∈ lw_all := lw_g (lw_at lw_m5 122 rfl) rfl
theorem q1623 : (Jvm.Cond.castable "BreakSetter$Fault" "java/lang/Throwable") ∈ lw_tbl := lw_at lw_m7 113 rfl
theorem q1648 : (Jvm.Cond.castable "BreakSetter$Fault" "java/lang/Object") ∈ lw_tbl := lw_at lw_m7 138 rfl
theorem in_X5 : ∀ w ∈ wsX50, w ∈ lw_all := lw_in wsX50 [1129, 1130, 1131, 1132, 1133, 1151, 1147, 1149] (by decide +kernel) (by decide +kernel)

/-! BreakSetter$Shift -/
set_option maxRecDepth 100000
def RX6 : String := "BreakSetter$Shift"
def TX6 : u_T := fun k => match k with
  | 0 => ("BreakSetter$Shift", "post", "I", true)
  | 1 => ("BreakSetter$Shift", "from", "I", true)
  | 2 => ("BreakSetter$Shift", "to", "I", true)
  | 3 => ("BreakSetter$Shift", "pauses", "I", false)
  | _ => ("BreakSetter$Shift", "first", "I", false)
def tyX6 : Nat → FieldType := fun k => match k with
  | 0 => .int
  | 1 => .int
  | 2 => .int
  | 3 => .int
  | _ => .int
abbrev wsX60 : List Cond := u_ws RX6 TX6 5
theorem nmX6 : ∀ a, a < 5 → ∀ b, b < 5 → a ≠ b → (TX6 a).2.1 ≠ (TX6 b).2.1 := by decide +kernel
theorem tyX6_ok : ∀ k, k < 5 → parseFieldDescriptor (TX6 k).2.2.1 = some (tyX6 k) := by decide +kernel
abbrev cX6_init : ByteArray := prog_6_method_1_code
def yX6_init : MethodName := ⟨RX6, "<init>", "(III)V"⟩
def dkwX6_init_1 : List UInt8 := [177]
abbrev dktX6_init_1 : List UInt8 := dkwX6_init_1 ++ []
def dkwX6_init_0 : List UInt8 := [42, 183, 0, 3, 42, 2, 181, 0, 9, 42, 27, 181, 0, 15, 42, 28, 181, 0, 18, 42, 29, 181, 0, 21]
abbrev dktX6_init_0 : List UInt8 := dkwX6_init_0 ++ dktX6_init_1
theorem dksX6_init_0 : cX6_init.data.toList.drop 0 = dktX6_init_0 := by decide +kernel
theorem dksX6_init_1 : cX6_init.data.toList.drop 24 = dktX6_init_1 := dk_seg dksX6_init_0 24 rfl rfl
theorem dX6_init_0 : decode cX6_init 0 = .ok (.aload_n 0, 1) := dk_42 (dk_at dksX6_init_0 0 rfl rfl)
theorem dX6_init_1 : decode cX6_init 1 = .ok (.invokespecial 3, 3) := dk_183 0 3 (dk_at dksX6_init_0 1 rfl rfl)
theorem dX6_init_4 : decode cX6_init 4 = .ok (.aload_n 0, 1) := dk_42 (dk_at dksX6_init_0 4 rfl rfl)
theorem dX6_init_5 : decode cX6_init 5 = .ok (.iconst (-1), 1) := dk_2 (dk_at dksX6_init_0 5 rfl rfl)
theorem dX6_init_6 : decode cX6_init 6 = .ok (.putfield 9, 3) := dk_181 0 9 (dk_at dksX6_init_0 6 rfl rfl)
theorem dX6_init_9 : decode cX6_init 9 = .ok (.aload_n 0, 1) := dk_42 (dk_at dksX6_init_0 9 rfl rfl)
theorem dX6_init_10 : decode cX6_init 10 = .ok (.iload_n 1, 1) := dk_27 (dk_at dksX6_init_0 10 rfl rfl)
theorem dX6_init_11 : decode cX6_init 11 = .ok (.putfield 15, 3) := dk_181 0 15 (dk_at dksX6_init_0 11 rfl rfl)
theorem dX6_init_14 : decode cX6_init 14 = .ok (.aload_n 0, 1) := dk_42 (dk_at dksX6_init_0 14 rfl rfl)
theorem dX6_init_15 : decode cX6_init 15 = .ok (.iload_n 2, 1) := dk_28 (dk_at dksX6_init_0 15 rfl rfl)
theorem dX6_init_16 : decode cX6_init 16 = .ok (.putfield 18, 3) := dk_181 0 18 (dk_at dksX6_init_0 16 rfl rfl)
theorem dX6_init_19 : decode cX6_init 19 = .ok (.aload_n 0, 1) := dk_42 (dk_at dksX6_init_0 19 rfl rfl)
theorem dX6_init_20 : decode cX6_init 20 = .ok (.iload_n 3, 1) := dk_29 (dk_at dksX6_init_0 20 rfl rfl)
theorem dX6_init_21 : decode cX6_init 21 = .ok (.putfield 21, 3) := dk_181 0 21 (dk_at dksX6_init_0 21 rfl rfl)
theorem dX6_init_24 : decode cX6_init 24 = .ok (.return_, 1) := dk_177 (dk_at dksX6_init_1 0 rfl rfl)
theorem q97 : (Jvm.Cond.initialized "BreakSetter$Shift") ∈ lw_all := lw_g (lw_at lw_m1 27 rfl) rfl
theorem q889 : (Jvm.Cond.selects "BreakSetter$Shift" ({ cls := "java/lang/Object", name := "getClass", desc := "()Ljava/lang/Class;" } : Jvm.MethodName) ({ cls := "java/lang/Object", name := "getClass", desc := "()Ljava/lang/Class;" } : Jvm.MethodName)) ∈ lw_all := lw_g (lw_at lw_m4 99 rfl) rfl
theorem q1172 : (Jvm.Cond.instantiable "BreakSetter$Shift" (5 : Nat)) ∈ lw_all := lw_g (lw_at lw_m5 142 rfl) rfl
theorem q1174 : (Jvm.Cond.instanceMethod ({ cls := "BreakSetter$Shift", name := "<init>", desc := "(III)V" } : Jvm.MethodName)) ∈ lw_all := lw_g (lw_at lw_m5 144 rfl) rfl
theorem q1175 : (Jvm.Cond.code ({ cls := "BreakSetter$Shift", name := "<init>", desc := "(III)V" } : Jvm.MethodName) prog_6_method_1_code (4 : Nat) (Option.none : Option Jvm.ClassFile.FieldType)) ∈ lw_all := lw_g (lw_at lw_m5 145 rfl) rfl
theorem q1176 : (Jvm.Cond.methodLink "BreakSetter$Shift" (3 : Nat) ({ cls := "java/lang/Object", name := "<init>", desc := "()V" } : Jvm.MethodName)) ∈ lw_all := lw_g (lw_at lw_m5 146 rfl) rfl
theorem q1177 : (Jvm.Cond.fieldLink "BreakSetter$Shift" (15 : Nat) "BreakSetter$Shift" "post" "I") ∈ lw_all := lw_g (lw_at lw_m5 147 rfl) rfl
theorem q1180 : (Jvm.Cond.fieldLink "BreakSetter$Shift" (18 : Nat) "BreakSetter$Shift" "from" "I") ∈ lw_all := lw_g (lw_at lw_m5 150 rfl) rfl
theorem q1184 : (Jvm.Cond.fieldLink "BreakSetter$Shift" (21 : Nat) "BreakSetter$Shift" "to" "I") ∈ lw_all := lw_g (lw_at lw_m5 154 rfl) rfl
theorem q1191 : (Jvm.Cond.fieldLink "BreakSetter$Shift" (9 : Nat) "BreakSetter$Shift" "first" "I") ∈ lw_all := lw_g (lw_at lw_m5 161 rfl) rfl
theorem q1194 : (Jvm.Cond.laysFinal "BreakSetter$Shift" "BreakSetter$Shift" "post" "I") ∈ lw_all := lw_g (lw_at lw_m5 164 rfl) rfl
theorem q1195 : (Jvm.Cond.soleField "BreakSetter$Shift" "post") ∈ lw_all := lw_g (lw_at lw_m5 165 rfl) rfl
theorem q1196 : (Jvm.Cond.laysFinal "BreakSetter$Shift" "BreakSetter$Shift" "from" "I") ∈ lw_all := lw_g (lw_at lw_m5 166 rfl) rfl
theorem q1197 : (Jvm.Cond.soleField "BreakSetter$Shift" "from") ∈ lw_all := lw_g (lw_at lw_m5 167 rfl) rfl
theorem q1198 : (Jvm.Cond.laysFinal "BreakSetter$Shift" "BreakSetter$Shift" "to" "I") ∈ lw_all := lw_g (lw_at lw_m5 168 rfl) rfl
theorem q1199 : (Jvm.Cond.soleField "BreakSetter$Shift" "to") ∈ lw_all := lw_g (lw_at lw_m5 169 rfl) rfl
theorem q1200 : (Jvm.Cond.lays "BreakSetter$Shift" "BreakSetter$Shift" "pauses" "I") ∈ lw_all := lw_g (lw_at lw_m5 170 rfl) rfl
theorem q1201 : (Jvm.Cond.soleField "BreakSetter$Shift" "pauses") ∈ lw_all := lw_g (lw_at lw_m5 171 rfl) rfl
theorem q1202 : (Jvm.Cond.lays "BreakSetter$Shift" "BreakSetter$Shift" "first" "I") ∈ lw_all := lw_g (lw_at lw_m5 172 rfl) rfl
theorem q1203 : (Jvm.Cond.soleField "BreakSetter$Shift" "first") ∈ lw_all := lw_g (lw_at lw_m5 173 rfl) rfl
theorem q1204 : (Jvm.Cond.superclass "BreakSetter$Shift" "java/lang/Object") ∈ lw_all := lw_g (lw_at lw_m5 174 rfl) rfl
theorem q1636 : (Jvm.Cond.castable "BreakSetter$Shift" "java/lang/Object") ∈ lw_tbl := lw_at lw_m7 126 rfl
theorem in_X6 : ∀ w ∈ wsX60, w ∈ lw_all := lw_in wsX60 [1194, 1196, 1198, 1200, 1202] (by decide +kernel) (by decide +kernel)

/-! BreakSetter$Pause -/
set_option maxRecDepth 100000
def RX7 : String := "BreakSetter$Pause"
def TX7 : u_T := fun k => match k with
  | 0 => ("BreakSetter$Pause", "shift", "I", true)
  | 1 => ("BreakSetter$Pause", "many", "I", true)
  | 2 => ("BreakSetter$Pause", "early", "I", true)
  | _ => ("BreakSetter$Pause", "late", "I", true)
def tyX7 : Nat → FieldType := fun k => match k with
  | 0 => .int
  | 1 => .int
  | 2 => .int
  | _ => .int
abbrev wsX70 : List Cond := u_ws RX7 TX7 4
theorem nmX7 : ∀ a, a < 4 → ∀ b, b < 4 → a ≠ b → (TX7 a).2.1 ≠ (TX7 b).2.1 := by decide +kernel
theorem tyX7_ok : ∀ k, k < 4 → parseFieldDescriptor (TX7 k).2.2.1 = some (tyX7 k) := by decide +kernel
abbrev cX7_touches : ByteArray := prog_3_method_3_code
def yX7_touches : MethodName := ⟨RX7, "touches", "(ILBreakSetter$Pause;I)Z"⟩
def dkwX7_touches_1 : List UInt8 := [3, 172]
abbrev dktX7_touches_1 : List UInt8 := dkwX7_touches_1 ++ []
def dkwX7_touches_0 : List UInt8 := [27, 29, 44, 180, 0, 13, 96, 163, 0, 17, 29, 27, 42, 180, 0, 13, 96, 163, 0, 7, 4, 167, 0, 4]
abbrev dktX7_touches_0 : List UInt8 := dkwX7_touches_0 ++ dktX7_touches_1
theorem dksX7_touches_0 : cX7_touches.data.toList.drop 0 = dktX7_touches_0 := by decide +kernel
theorem dksX7_touches_1 : cX7_touches.data.toList.drop 24 = dktX7_touches_1 := dk_seg dksX7_touches_0 24 rfl rfl
theorem dX7_touches_0 : decode cX7_touches 0 = .ok (.iload_n 1, 1) := dk_27 (dk_at dksX7_touches_0 0 rfl rfl)
theorem dX7_touches_1 : decode cX7_touches 1 = .ok (.iload_n 3, 1) := dk_29 (dk_at dksX7_touches_0 1 rfl rfl)
theorem dX7_touches_2 : decode cX7_touches 2 = .ok (.aload_n 2, 1) := dk_44 (dk_at dksX7_touches_0 2 rfl rfl)
theorem dX7_touches_3 : decode cX7_touches 3 = .ok (.getfield 13, 3) := dk_180 0 13 (dk_at dksX7_touches_0 3 rfl rfl)
theorem dX7_touches_6 : decode cX7_touches 6 = .ok (.iadd, 1) := dk_96 (dk_at dksX7_touches_0 6 rfl rfl)
theorem dX7_touches_7 : decode cX7_touches 7 = .ok (.if_icmp .gt 17, 3) := dk_163 0 17 (dk_at dksX7_touches_0 7 rfl rfl)
theorem dX7_touches_10 : decode cX7_touches 10 = .ok (.iload_n 3, 1) := dk_29 (dk_at dksX7_touches_0 10 rfl rfl)
theorem dX7_touches_11 : decode cX7_touches 11 = .ok (.iload_n 1, 1) := dk_27 (dk_at dksX7_touches_0 11 rfl rfl)
theorem dX7_touches_12 : decode cX7_touches 12 = .ok (.aload_n 0, 1) := dk_42 (dk_at dksX7_touches_0 12 rfl rfl)
theorem dX7_touches_13 : decode cX7_touches 13 = .ok (.getfield 13, 3) := dk_180 0 13 (dk_at dksX7_touches_0 13 rfl rfl)
theorem dX7_touches_16 : decode cX7_touches 16 = .ok (.iadd, 1) := dk_96 (dk_at dksX7_touches_0 16 rfl rfl)
theorem dX7_touches_17 : decode cX7_touches 17 = .ok (.if_icmp .gt 7, 3) := dk_163 0 7 (dk_at dksX7_touches_0 17 rfl rfl)
theorem dX7_touches_20 : decode cX7_touches 20 = .ok (.iconst 1, 1) := dk_4 (dk_at dksX7_touches_0 20 rfl rfl)
theorem dX7_touches_21 : decode cX7_touches 21 = .ok (.goto 4, 3) := dk_167 0 4 (dk_at dksX7_touches_0 21 rfl rfl)
theorem dX7_touches_24 : decode cX7_touches 24 = .ok (.iconst 0, 1) := dk_3 (dk_at dksX7_touches_1 0 rfl rfl)
theorem dX7_touches_25 : decode cX7_touches 25 = .ok (.ireturn, 1) := dk_172 (dk_at dksX7_touches_1 1 rfl rfl)
abbrev cX7_init : ByteArray := prog_3_method_2_code
def yX7_init : MethodName := ⟨RX7, "<init>", "(III)V"⟩
def dkwX7_init_0 : List UInt8 := [42, 27, 28, 29, 29, 183, 0, 22, 177]
abbrev dktX7_init_0 : List UInt8 := dkwX7_init_0 ++ []
theorem dksX7_init_0 : cX7_init.data.toList.drop 0 = dktX7_init_0 := by decide +kernel
theorem dX7_init_0 : decode cX7_init 0 = .ok (.aload_n 0, 1) := dk_42 (dk_at dksX7_init_0 0 rfl rfl)
theorem dX7_init_1 : decode cX7_init 1 = .ok (.iload_n 1, 1) := dk_27 (dk_at dksX7_init_0 1 rfl rfl)
theorem dX7_init_2 : decode cX7_init 2 = .ok (.iload_n 2, 1) := dk_28 (dk_at dksX7_init_0 2 rfl rfl)
theorem dX7_init_3 : decode cX7_init 3 = .ok (.iload_n 3, 1) := dk_29 (dk_at dksX7_init_0 3 rfl rfl)
theorem dX7_init_4 : decode cX7_init 4 = .ok (.iload_n 3, 1) := dk_29 (dk_at dksX7_init_0 4 rfl rfl)
theorem dX7_init_5 : decode cX7_init 5 = .ok (.invokespecial 22, 3) := dk_183 0 22 (dk_at dksX7_init_0 5 rfl rfl)
theorem dX7_init_8 : decode cX7_init 8 = .ok (.return_, 1) := dk_177 (dk_at dksX7_init_0 8 rfl rfl)
abbrev cX7_init_2 : ByteArray := prog_3_method_1_code
def yX7_init_2 : MethodName := ⟨RX7, "<init>", "(IIII)V"⟩
def dkwX7_init_2_1 : List UInt8 := [181, 0, 19, 177]
abbrev dktX7_init_2_1 : List UInt8 := dkwX7_init_2_1 ++ []
def dkwX7_init_2_0 : List UInt8 := [42, 183, 0, 1, 42, 27, 181, 0, 7, 42, 28, 181, 0, 13, 42, 29, 181, 0, 16, 42, 21, 4]
abbrev dktX7_init_2_0 : List UInt8 := dkwX7_init_2_0 ++ dktX7_init_2_1
theorem dksX7_init_2_0 : cX7_init_2.data.toList.drop 0 = dktX7_init_2_0 := by decide +kernel
theorem dksX7_init_2_1 : cX7_init_2.data.toList.drop 22 = dktX7_init_2_1 := dk_seg dksX7_init_2_0 22 rfl rfl
theorem dX7_init_2_0 : decode cX7_init_2 0 = .ok (.aload_n 0, 1) := dk_42 (dk_at dksX7_init_2_0 0 rfl rfl)
theorem dX7_init_2_1 : decode cX7_init_2 1 = .ok (.invokespecial 1, 3) := dk_183 0 1 (dk_at dksX7_init_2_0 1 rfl rfl)
theorem dX7_init_2_4 : decode cX7_init_2 4 = .ok (.aload_n 0, 1) := dk_42 (dk_at dksX7_init_2_0 4 rfl rfl)
theorem dX7_init_2_5 : decode cX7_init_2 5 = .ok (.iload_n 1, 1) := dk_27 (dk_at dksX7_init_2_0 5 rfl rfl)
theorem dX7_init_2_6 : decode cX7_init_2 6 = .ok (.putfield 7, 3) := dk_181 0 7 (dk_at dksX7_init_2_0 6 rfl rfl)
theorem dX7_init_2_9 : decode cX7_init_2 9 = .ok (.aload_n 0, 1) := dk_42 (dk_at dksX7_init_2_0 9 rfl rfl)
theorem dX7_init_2_10 : decode cX7_init_2 10 = .ok (.iload_n 2, 1) := dk_28 (dk_at dksX7_init_2_0 10 rfl rfl)
theorem dX7_init_2_11 : decode cX7_init_2 11 = .ok (.putfield 13, 3) := dk_181 0 13 (dk_at dksX7_init_2_0 11 rfl rfl)
theorem dX7_init_2_14 : decode cX7_init_2 14 = .ok (.aload_n 0, 1) := dk_42 (dk_at dksX7_init_2_0 14 rfl rfl)
theorem dX7_init_2_15 : decode cX7_init_2 15 = .ok (.iload_n 3, 1) := dk_29 (dk_at dksX7_init_2_0 15 rfl rfl)
theorem dX7_init_2_16 : decode cX7_init_2 16 = .ok (.putfield 16, 3) := dk_181 0 16 (dk_at dksX7_init_2_0 16 rfl rfl)
theorem dX7_init_2_19 : decode cX7_init_2 19 = .ok (.aload_n 0, 1) := dk_42 (dk_at dksX7_init_2_0 19 rfl rfl)
theorem dX7_init_2_20 : decode cX7_init_2 20 = .ok (.iload 4, 2) := dk_21 4 (dk_at dksX7_init_2_0 20 rfl rfl)
theorem dX7_init_2_22 : decode cX7_init_2 22 = .ok (.putfield 19, 3) := dk_181 0 19 (dk_at dksX7_init_2_1 0 rfl rfl)
theorem dX7_init_2_25 : decode cX7_init_2 25 = .ok (.return_, 1) := dk_177 (dk_at dksX7_init_2_1 3 rfl rfl)
theorem q98 : (Jvm.Cond.initialized "BreakSetter$Pause") ∈ lw_all := lw_g (lw_at lw_m1 28 rfl) rfl
theorem q288 : (Jvm.Cond.instanceMethod ({ cls := "BreakSetter$Pause", name := "touches", desc := "(ILBreakSetter$Pause;I)Z" } : Jvm.MethodName)) ∈ lw_all := lw_g (lw_at lw_m1 218 rfl) rfl
theorem q289 : (Jvm.Cond.selects "BreakSetter$Pause" ({ cls := "BreakSetter$Pause", name := "touches", desc := "(ILBreakSetter$Pause;I)Z" } : Jvm.MethodName) ({ cls := "BreakSetter$Pause", name := "touches", desc := "(ILBreakSetter$Pause;I)Z" } : Jvm.MethodName)) ∈ lw_all := lw_g (lw_at lw_m1 219 rfl) rfl
theorem q290 : (Jvm.Cond.code ({ cls := "BreakSetter$Pause", name := "touches", desc := "(ILBreakSetter$Pause;I)Z" } : Jvm.MethodName) prog_3_method_3_code (4 : Nat) (Option.some Jvm.ClassFile.FieldType.boolean)) ∈ lw_all := lw_g (lw_at lw_m1 220 rfl) rfl
theorem q886 : (Jvm.Cond.selects "BreakSetter$Pause" ({ cls := "java/lang/Object", name := "getClass", desc := "()Ljava/lang/Class;" } : Jvm.MethodName) ({ cls := "java/lang/Object", name := "getClass", desc := "()Ljava/lang/Class;" } : Jvm.MethodName)) ∈ lw_all := lw_g (lw_at lw_m4 96 rfl) rfl
theorem q1211 : (Jvm.Cond.instantiable "BreakSetter$Pause" (4 : Nat)) ∈ lw_all := lw_g (lw_at lw_m5 181 rfl) rfl
theorem q1213 : (Jvm.Cond.instanceMethod ({ cls := "BreakSetter$Pause", name := "<init>", desc := "(III)V" } : Jvm.MethodName)) ∈ lw_all := lw_g (lw_at lw_m5 183 rfl) rfl
theorem q1214 : (Jvm.Cond.code ({ cls := "BreakSetter$Pause", name := "<init>", desc := "(III)V" } : Jvm.MethodName) prog_3_method_2_code (4 : Nat) (Option.none : Option Jvm.ClassFile.FieldType)) ∈ lw_all := lw_g (lw_at lw_m5 184 rfl) rfl
theorem q1215 : (Jvm.Cond.methodLink "BreakSetter$Pause" (22 : Nat) ({ cls := "BreakSetter$Pause", name := "<init>", desc := "(IIII)V" } : Jvm.MethodName)) ∈ lw_all := lw_g (lw_at lw_m5 185 rfl) rfl
theorem q1216 : (Jvm.Cond.instanceMethod ({ cls := "BreakSetter$Pause", name := "<init>", desc := "(IIII)V" } : Jvm.MethodName)) ∈ lw_all := lw_g (lw_at lw_m5 186 rfl) rfl
theorem q1217 : (Jvm.Cond.code ({ cls := "BreakSetter$Pause", name := "<init>", desc := "(IIII)V" } : Jvm.MethodName) prog_3_method_1_code (5 : Nat) (Option.none : Option Jvm.ClassFile.FieldType)) ∈ lw_all := lw_g (lw_at lw_m5 187 rfl) rfl
theorem q1218 : (Jvm.Cond.methodLink "BreakSetter$Pause" (1 : Nat) ({ cls := "java/lang/Object", name := "<init>", desc := "()V" } : Jvm.MethodName)) ∈ lw_all := lw_g (lw_at lw_m5 188 rfl) rfl
theorem q1219 : (Jvm.Cond.fieldLink "BreakSetter$Pause" (7 : Nat) "BreakSetter$Pause" "shift" "I") ∈ lw_all := lw_g (lw_at lw_m5 189 rfl) rfl
theorem q1222 : (Jvm.Cond.fieldLink "BreakSetter$Pause" (13 : Nat) "BreakSetter$Pause" "many" "I") ∈ lw_all := lw_g (lw_at lw_m5 192 rfl) rfl
theorem q1224 : (Jvm.Cond.fieldLink "BreakSetter$Pause" (16 : Nat) "BreakSetter$Pause" "early" "I") ∈ lw_all := lw_g (lw_at lw_m5 194 rfl) rfl
theorem q1226 : (Jvm.Cond.fieldLink "BreakSetter$Pause" (19 : Nat) "BreakSetter$Pause" "late" "I") ∈ lw_all := lw_g (lw_at lw_m5 196 rfl) rfl
theorem q1228 : (Jvm.Cond.laysFinal "BreakSetter$Pause" "BreakSetter$Pause" "shift" "I") ∈ lw_all := lw_g (lw_at lw_m5 198 rfl) rfl
theorem q1229 : (Jvm.Cond.soleField "BreakSetter$Pause" "shift") ∈ lw_all := lw_g (lw_at lw_m5 199 rfl) rfl
theorem q1230 : (Jvm.Cond.laysFinal "BreakSetter$Pause" "BreakSetter$Pause" "many" "I") ∈ lw_all := lw_g (lw_at lw_m5 200 rfl) rfl
theorem q1231 : (Jvm.Cond.soleField "BreakSetter$Pause" "many") ∈ lw_all := lw_g (lw_at lw_m5 201 rfl) rfl
theorem q1232 : (Jvm.Cond.laysFinal "BreakSetter$Pause" "BreakSetter$Pause" "early" "I") ∈ lw_all := lw_g (lw_at lw_m5 202 rfl) rfl
theorem q1233 : (Jvm.Cond.soleField "BreakSetter$Pause" "early") ∈ lw_all := lw_g (lw_at lw_m5 203 rfl) rfl
theorem q1234 : (Jvm.Cond.laysFinal "BreakSetter$Pause" "BreakSetter$Pause" "late" "I") ∈ lw_all := lw_g (lw_at lw_m5 204 rfl) rfl
theorem q1235 : (Jvm.Cond.soleField "BreakSetter$Pause" "late") ∈ lw_all := lw_g (lw_at lw_m5 205 rfl) rfl
theorem q1236 : (Jvm.Cond.superclass "BreakSetter$Pause" "java/lang/Object") ∈ lw_all := lw_g (lw_at lw_m5 206 rfl) rfl
theorem q1637 : (Jvm.Cond.castable "BreakSetter$Pause" "java/lang/Object") ∈ lw_tbl := lw_at lw_m7 127 rfl
theorem in_X7 : ∀ w ∈ wsX70, w ∈ lw_all := lw_in wsX70 [1228, 1230, 1232, 1234] (by decide +kernel) (by decide +kernel)

/-! BreakSetter$Trial -/
set_option maxRecDepth 100000
def RX8 : String := "BreakSetter$Trial"
def TX8 : u_T := fun k => match k with
  | 0 => ("BreakSetter$Trial", "pause", "I", true)
  | 1 => ("BreakSetter$Trial", "was", "I", true)
  | _ => ("BreakSetter$Trial", "this$0", "LBreakSetter;", true)
def tyX8 : Nat → FieldType := fun k => match k with
  | 0 => .int
  | 1 => .int
  | _ => .object "BreakSetter"
abbrev wsX80 : List Cond := u_ws RX8 TX8 3
theorem nmX8 : ∀ a, a < 3 → ∀ b, b < 3 → a ≠ b → (TX8 a).2.1 ≠ (TX8 b).2.1 := by decide +kernel
theorem tyX8_ok : ∀ k, k < 3 → parseFieldDescriptor (TX8 k).2.2.1 = some (tyX8 k) := by decide +kernel
abbrev cX8_init : ByteArray := prog_7_method_1_code
def yX8_init : MethodName := ⟨RX8, "<init>", "(LBreakSetter;I)V"⟩
def dkwX8_init_1 : List UInt8 := [42, 180, 0, 23, 2, 159, 0, 13, 43, 28, 42, 180, 0, 23, 4, 182, 0, 26, 177]
abbrev dktX8_init_1 : List UInt8 := dkwX8_init_1 ++ []
def dkwX8_init_0 : List UInt8 := [42, 43, 181, 0, 3, 42, 183, 0, 9, 42, 28, 181, 0, 15, 42, 43, 180, 0, 19, 28, 46, 181, 0, 23]
abbrev dktX8_init_0 : List UInt8 := dkwX8_init_0 ++ dktX8_init_1
theorem dksX8_init_0 : cX8_init.data.toList.drop 0 = dktX8_init_0 := by decide +kernel
theorem dksX8_init_1 : cX8_init.data.toList.drop 24 = dktX8_init_1 := dk_seg dksX8_init_0 24 rfl rfl
theorem dX8_init_0 : decode cX8_init 0 = .ok (.aload_n 0, 1) := dk_42 (dk_at dksX8_init_0 0 rfl rfl)
theorem dX8_init_1 : decode cX8_init 1 = .ok (.aload_n 1, 1) := dk_43 (dk_at dksX8_init_0 1 rfl rfl)
theorem dX8_init_2 : decode cX8_init 2 = .ok (.putfield 3, 3) := dk_181 0 3 (dk_at dksX8_init_0 2 rfl rfl)
theorem dX8_init_5 : decode cX8_init 5 = .ok (.aload_n 0, 1) := dk_42 (dk_at dksX8_init_0 5 rfl rfl)
theorem dX8_init_6 : decode cX8_init 6 = .ok (.invokespecial 9, 3) := dk_183 0 9 (dk_at dksX8_init_0 6 rfl rfl)
theorem dX8_init_9 : decode cX8_init 9 = .ok (.aload_n 0, 1) := dk_42 (dk_at dksX8_init_0 9 rfl rfl)
theorem dX8_init_10 : decode cX8_init 10 = .ok (.iload_n 2, 1) := dk_28 (dk_at dksX8_init_0 10 rfl rfl)
theorem dX8_init_11 : decode cX8_init 11 = .ok (.putfield 15, 3) := dk_181 0 15 (dk_at dksX8_init_0 11 rfl rfl)
theorem dX8_init_14 : decode cX8_init 14 = .ok (.aload_n 0, 1) := dk_42 (dk_at dksX8_init_0 14 rfl rfl)
theorem dX8_init_15 : decode cX8_init 15 = .ok (.aload_n 1, 1) := dk_43 (dk_at dksX8_init_0 15 rfl rfl)
theorem dX8_init_16 : decode cX8_init 16 = .ok (.getfield 19, 3) := dk_180 0 19 (dk_at dksX8_init_0 16 rfl rfl)
theorem dX8_init_19 : decode cX8_init 19 = .ok (.iload_n 2, 1) := dk_28 (dk_at dksX8_init_0 19 rfl rfl)
theorem dX8_init_20 : decode cX8_init 20 = .ok (.iaload, 1) := dk_46 (dk_at dksX8_init_0 20 rfl rfl)
theorem dX8_init_21 : decode cX8_init 21 = .ok (.putfield 23, 3) := dk_181 0 23 (dk_at dksX8_init_0 21 rfl rfl)
theorem dX8_init_24 : decode cX8_init 24 = .ok (.aload_n 0, 1) := dk_42 (dk_at dksX8_init_1 0 rfl rfl)
theorem dX8_init_25 : decode cX8_init 25 = .ok (.getfield 23, 3) := dk_180 0 23 (dk_at dksX8_init_1 1 rfl rfl)
theorem dX8_init_28 : decode cX8_init 28 = .ok (.iconst (-1), 1) := dk_2 (dk_at dksX8_init_1 4 rfl rfl)
theorem dX8_init_29 : decode cX8_init 29 = .ok (.if_icmp .eq 13, 3) := dk_159 0 13 (dk_at dksX8_init_1 5 rfl rfl)
theorem dX8_init_32 : decode cX8_init 32 = .ok (.aload_n 1, 1) := dk_43 (dk_at dksX8_init_1 8 rfl rfl)
theorem dX8_init_33 : decode cX8_init 33 = .ok (.iload_n 2, 1) := dk_28 (dk_at dksX8_init_1 9 rfl rfl)
theorem dX8_init_34 : decode cX8_init 34 = .ok (.aload_n 0, 1) := dk_42 (dk_at dksX8_init_1 10 rfl rfl)
theorem dX8_init_35 : decode cX8_init 35 = .ok (.getfield 23, 3) := dk_180 0 23 (dk_at dksX8_init_1 11 rfl rfl)
theorem dX8_init_38 : decode cX8_init 38 = .ok (.iconst 1, 1) := dk_4 (dk_at dksX8_init_1 14 rfl rfl)
theorem dX8_init_39 : decode cX8_init 39 = .ok (.invokevirtual 26, 3) := dk_182 0 26 (dk_at dksX8_init_1 15 rfl rfl)
theorem dX8_init_42 : decode cX8_init 42 = .ok (.return_, 1) := dk_177 (dk_at dksX8_init_1 18 rfl rfl)
abbrev cX8_by : ByteArray := prog_7_method_2_code
def yX8_by : MethodName := ⟨RX8, "by", "(I)I"⟩
def dkwX8_by_1 : List UInt8 := [180, 0, 3, 42, 180, 0, 15, 27, 4, 182, 0, 26, 28, 172]
abbrev dktX8_by_1 : List UInt8 := dkwX8_by_1 ++ []
def dkwX8_by_0 : List UInt8 := [42, 180, 0, 3, 42, 180, 0, 15, 27, 2, 182, 0, 26, 42, 180, 0, 3, 180, 0, 30, 61, 42]
abbrev dktX8_by_0 : List UInt8 := dkwX8_by_0 ++ dktX8_by_1
theorem dksX8_by_0 : cX8_by.data.toList.drop 0 = dktX8_by_0 := by decide +kernel
theorem dksX8_by_1 : cX8_by.data.toList.drop 22 = dktX8_by_1 := dk_seg dksX8_by_0 22 rfl rfl
theorem dX8_by_0 : decode cX8_by 0 = .ok (.aload_n 0, 1) := dk_42 (dk_at dksX8_by_0 0 rfl rfl)
theorem dX8_by_1 : decode cX8_by 1 = .ok (.getfield 3, 3) := dk_180 0 3 (dk_at dksX8_by_0 1 rfl rfl)
theorem dX8_by_4 : decode cX8_by 4 = .ok (.aload_n 0, 1) := dk_42 (dk_at dksX8_by_0 4 rfl rfl)
theorem dX8_by_5 : decode cX8_by 5 = .ok (.getfield 15, 3) := dk_180 0 15 (dk_at dksX8_by_0 5 rfl rfl)
theorem dX8_by_8 : decode cX8_by 8 = .ok (.iload_n 1, 1) := dk_27 (dk_at dksX8_by_0 8 rfl rfl)
theorem dX8_by_9 : decode cX8_by 9 = .ok (.iconst (-1), 1) := dk_2 (dk_at dksX8_by_0 9 rfl rfl)
theorem dX8_by_10 : decode cX8_by 10 = .ok (.invokevirtual 26, 3) := dk_182 0 26 (dk_at dksX8_by_0 10 rfl rfl)
theorem dX8_by_13 : decode cX8_by 13 = .ok (.aload_n 0, 1) := dk_42 (dk_at dksX8_by_0 13 rfl rfl)
theorem dX8_by_14 : decode cX8_by 14 = .ok (.getfield 3, 3) := dk_180 0 3 (dk_at dksX8_by_0 14 rfl rfl)
theorem dX8_by_17 : decode cX8_by 17 = .ok (.getfield 30, 3) := dk_180 0 30 (dk_at dksX8_by_0 17 rfl rfl)
theorem dX8_by_20 : decode cX8_by 20 = .ok (.istore_n 2, 1) := dk_61 (dk_at dksX8_by_0 20 rfl rfl)
theorem dX8_by_21 : decode cX8_by 21 = .ok (.aload_n 0, 1) := dk_42 (dk_at dksX8_by_0 21 rfl rfl)
theorem dX8_by_22 : decode cX8_by 22 = .ok (.getfield 3, 3) := dk_180 0 3 (dk_at dksX8_by_1 0 rfl rfl)
theorem dX8_by_25 : decode cX8_by 25 = .ok (.aload_n 0, 1) := dk_42 (dk_at dksX8_by_1 3 rfl rfl)
theorem dX8_by_26 : decode cX8_by 26 = .ok (.getfield 15, 3) := dk_180 0 15 (dk_at dksX8_by_1 4 rfl rfl)
theorem dX8_by_29 : decode cX8_by 29 = .ok (.iload_n 1, 1) := dk_27 (dk_at dksX8_by_1 7 rfl rfl)
theorem dX8_by_30 : decode cX8_by 30 = .ok (.iconst 1, 1) := dk_4 (dk_at dksX8_by_1 8 rfl rfl)
theorem dX8_by_31 : decode cX8_by 31 = .ok (.invokevirtual 26, 3) := dk_182 0 26 (dk_at dksX8_by_1 9 rfl rfl)
theorem dX8_by_34 : decode cX8_by 34 = .ok (.iload_n 2, 1) := dk_28 (dk_at dksX8_by_1 12 rfl rfl)
theorem dX8_by_35 : decode cX8_by 35 = .ok (.ireturn, 1) := dk_172 (dk_at dksX8_by_1 13 rfl rfl)
abbrev cX8_close : ByteArray := prog_7_method_3_code
def yX8_close : MethodName := ⟨RX8, "close", "()V"⟩
def dkwX8_close_1 : List UInt8 := [177]
abbrev dktX8_close_1 : List UInt8 := dkwX8_close_1 ++ []
def dkwX8_close_0 : List UInt8 := [42, 180, 0, 23, 2, 159, 0, 19, 42, 180, 0, 3, 42, 180, 0, 15, 42, 180, 0, 23, 2, 182, 0, 26]
abbrev dktX8_close_0 : List UInt8 := dkwX8_close_0 ++ dktX8_close_1
theorem dksX8_close_0 : cX8_close.data.toList.drop 0 = dktX8_close_0 := by decide +kernel
theorem dksX8_close_1 : cX8_close.data.toList.drop 24 = dktX8_close_1 := dk_seg dksX8_close_0 24 rfl rfl
theorem dX8_close_0 : decode cX8_close 0 = .ok (.aload_n 0, 1) := dk_42 (dk_at dksX8_close_0 0 rfl rfl)
theorem dX8_close_1 : decode cX8_close 1 = .ok (.getfield 23, 3) := dk_180 0 23 (dk_at dksX8_close_0 1 rfl rfl)
theorem dX8_close_4 : decode cX8_close 4 = .ok (.iconst (-1), 1) := dk_2 (dk_at dksX8_close_0 4 rfl rfl)
theorem dX8_close_5 : decode cX8_close 5 = .ok (.if_icmp .eq 19, 3) := dk_159 0 19 (dk_at dksX8_close_0 5 rfl rfl)
theorem dX8_close_8 : decode cX8_close 8 = .ok (.aload_n 0, 1) := dk_42 (dk_at dksX8_close_0 8 rfl rfl)
theorem dX8_close_9 : decode cX8_close 9 = .ok (.getfield 3, 3) := dk_180 0 3 (dk_at dksX8_close_0 9 rfl rfl)
theorem dX8_close_12 : decode cX8_close 12 = .ok (.aload_n 0, 1) := dk_42 (dk_at dksX8_close_0 12 rfl rfl)
theorem dX8_close_13 : decode cX8_close 13 = .ok (.getfield 15, 3) := dk_180 0 15 (dk_at dksX8_close_0 13 rfl rfl)
theorem dX8_close_16 : decode cX8_close 16 = .ok (.aload_n 0, 1) := dk_42 (dk_at dksX8_close_0 16 rfl rfl)
theorem dX8_close_17 : decode cX8_close 17 = .ok (.getfield 23, 3) := dk_180 0 23 (dk_at dksX8_close_0 17 rfl rfl)
theorem dX8_close_20 : decode cX8_close 20 = .ok (.iconst (-1), 1) := dk_2 (dk_at dksX8_close_0 20 rfl rfl)
theorem dX8_close_21 : decode cX8_close 21 = .ok (.invokevirtual 26, 3) := dk_182 0 26 (dk_at dksX8_close_0 21 rfl rfl)
theorem dX8_close_24 : decode cX8_close 24 = .ok (.return_, 1) := dk_177 (dk_at dksX8_close_1 0 rfl rfl)
theorem q102 : (Jvm.Cond.initialized "BreakSetter$Trial") ∈ lw_all := lw_g (lw_at lw_m1 32 rfl) rfl
theorem q185 : (Jvm.Cond.fieldLinkNest "BreakSetter$Trial" (19 : Nat) "BreakSetter" "at" "[I" "BreakSetter") ∈ lw_tbl := lw_at lw_m1 115 rfl
theorem q188 : (Jvm.Cond.fieldLinkNest "BreakSetter$Trial" (30 : Nat) "BreakSetter" "shortfall" "I" "BreakSetter") ∈ lw_tbl := lw_at lw_m1 118 rfl
theorem q298 : (Jvm.Cond.instantiable "BreakSetter$Trial" (3 : Nat)) ∈ lw_all := lw_g (lw_at lw_m1 228 rfl) rfl
theorem q300 : (Jvm.Cond.instanceMethod ({ cls := "BreakSetter$Trial", name := "<init>", desc := "(LBreakSetter;I)V" } : Jvm.MethodName)) ∈ lw_all := lw_g (lw_at lw_m1 230 rfl) rfl
theorem q301 : (Jvm.Cond.code ({ cls := "BreakSetter$Trial", name := "<init>", desc := "(LBreakSetter;I)V" } : Jvm.MethodName) prog_7_method_1_code (3 : Nat) (Option.none : Option Jvm.ClassFile.FieldType)) ∈ lw_all := lw_g (lw_at lw_m1 231 rfl) rfl
theorem q302 : (Jvm.Cond.methodLink "BreakSetter$Trial" (9 : Nat) ({ cls := "java/lang/Object", name := "<init>", desc := "()V" } : Jvm.MethodName)) ∈ lw_all := lw_g (lw_at lw_m1 232 rfl) rfl
theorem q303 : (Jvm.Cond.methodLinkNest "BreakSetter$Trial" (26 : Nat) ({ cls := "BreakSetter", name := "shifts", desc := "(III)V" } : Jvm.MethodName) "BreakSetter") ∈ lw_tbl := lw_at lw_m1 233 rfl
theorem q304 : (Jvm.Cond.fieldLink "BreakSetter$Trial" (15 : Nat) "BreakSetter$Trial" "pause" "I") ∈ lw_all := lw_g (lw_at lw_m1 234 rfl) rfl
theorem q305 : (Jvm.Cond.fieldLink "BreakSetter$Trial" (23 : Nat) "BreakSetter$Trial" "was" "I") ∈ lw_all := lw_g (lw_at lw_m1 235 rfl) rfl
theorem q306 : (Jvm.Cond.fieldLink "BreakSetter$Trial" (3 : Nat) "BreakSetter$Trial" "this$0" "LBreakSetter;") ∈ lw_all := lw_g (lw_at lw_m1 236 rfl) rfl
theorem q307 : (Jvm.Cond.laysFinal "BreakSetter$Trial" "BreakSetter$Trial" "pause" "I") ∈ lw_all := lw_g (lw_at lw_m1 237 rfl) rfl
theorem q308 : (Jvm.Cond.soleField "BreakSetter$Trial" "pause") ∈ lw_all := lw_g (lw_at lw_m1 238 rfl) rfl
theorem q309 : (Jvm.Cond.laysFinal "BreakSetter$Trial" "BreakSetter$Trial" "was" "I") ∈ lw_all := lw_g (lw_at lw_m1 239 rfl) rfl
theorem q310 : (Jvm.Cond.soleField "BreakSetter$Trial" "was") ∈ lw_all := lw_g (lw_at lw_m2 0 rfl) rfl
theorem q311 : (Jvm.Cond.laysFinal "BreakSetter$Trial" "BreakSetter$Trial" "this$0" "LBreakSetter;") ∈ lw_all := lw_g (lw_at lw_m2 1 rfl) rfl
theorem q312 : (Jvm.Cond.soleField "BreakSetter$Trial" "this$0") ∈ lw_all := lw_g (lw_at lw_m2 2 rfl) rfl
theorem q313 : (Jvm.Cond.superclass "BreakSetter$Trial" "java/lang/Object") ∈ lw_all := lw_g (lw_at lw_m2 3 rfl) rfl
theorem q315 : (Jvm.Cond.instanceMethod ({ cls := "BreakSetter$Trial", name := "by", desc := "(I)I" } : Jvm.MethodName)) ∈ lw_all := lw_g (lw_at lw_m2 5 rfl) rfl
theorem q316 : (Jvm.Cond.selects "BreakSetter$Trial" ({ cls := "BreakSetter$Trial", name := "by", desc := "(I)I" } : Jvm.MethodName) ({ cls := "BreakSetter$Trial", name := "by", desc := "(I)I" } : Jvm.MethodName)) ∈ lw_all := lw_g (lw_at lw_m2 6 rfl) rfl
theorem q317 : (Jvm.Cond.code ({ cls := "BreakSetter$Trial", name := "by", desc := "(I)I" } : Jvm.MethodName) prog_7_method_2_code (3 : Nat) (Option.some Jvm.ClassFile.FieldType.int)) ∈ lw_all := lw_g (lw_at lw_m2 7 rfl) rfl
theorem q319 : (Jvm.Cond.instanceMethod ({ cls := "BreakSetter$Trial", name := "close", desc := "()V" } : Jvm.MethodName)) ∈ lw_all := lw_g (lw_at lw_m2 9 rfl) rfl
theorem q320 : (Jvm.Cond.selects "BreakSetter$Trial" ({ cls := "BreakSetter$Trial", name := "close", desc := "()V" } : Jvm.MethodName) ({ cls := "BreakSetter$Trial", name := "close", desc := "()V" } : Jvm.MethodName)) ∈ lw_all := lw_g (lw_at lw_m2 10 rfl) rfl
theorem q321 : (Jvm.Cond.code ({ cls := "BreakSetter$Trial", name := "close", desc := "()V" } : Jvm.MethodName) prog_7_method_3_code (1 : Nat) (Option.none : Option Jvm.ClassFile.FieldType)) ∈ lw_all := lw_g (lw_at lw_m2 11 rfl) rfl
theorem q890 : (Jvm.Cond.selects "BreakSetter$Trial" ({ cls := "java/lang/Object", name := "getClass", desc := "()Ljava/lang/Class;" } : Jvm.MethodName) ({ cls := "java/lang/Object", name := "getClass", desc := "()Ljava/lang/Class;" } : Jvm.MethodName)) ∈ lw_all := lw_g (lw_at lw_m4 100 rfl) rfl
theorem q1650 : (Jvm.Cond.castable "BreakSetter$Trial" "java/lang/Object") ∈ lw_tbl := lw_at lw_m7 140 rfl
theorem in_X8 : ∀ w ∈ wsX80, w ∈ lw_all := lw_in wsX80 [307, 309, 311] (by decide +kernel) (by decide +kernel)

