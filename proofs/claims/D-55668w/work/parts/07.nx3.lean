/-! FlockHutsModel -/
set_option maxRecDepth 100000
def RX3 : String := "FlockHutsModel"
def TX3 : u_T := fun k => match k with
  | 0 => ("FlockHutsModel", "thrown", "I", false)
  | 1 => ("FlockHutsModel", "s", "[I", true)
  | 2 => ("FlockHutsModel", "frame", "[I", true)
  | 3 => ("FlockHutsModel", "saved", "[I", true)
  | 4 => ("FlockHutsModel", "history", "[I", true)
  | 5 => ("FlockHutsModel", "thought", "[I", true)
  | 6 => ("FlockHutsModel", "before", "[I", true)
  | 7 => ("FlockHutsModel", "kept", "I", false)
  | 8 => ("FlockHutsModel", "hasSaved", "Z", false)
  | 9 => ("FlockHutsModel", "text", "[I", true)
  | 10 => ("FlockHutsModel", "told", "[I", true)
  | 11 => ("FlockHutsModel", "out", "[I", true)
  | 12 => ("FlockHutsModel", "oldX", "[I", true)
  | 13 => ("FlockHutsModel", "oldY", "[I", true)
  | 14 => ("FlockHutsModel", "length", "I", false)
  | 15 => ("FlockHutsModel", "outLength", "I", false)
  | 16 => ("FlockHutsModel", "faultAt", "I", false)
  | 17 => ("FlockHutsModel", "itemAt", "I", false)
  | 18 => ("FlockHutsModel", "why", "I", false)
  | 19 => ("FlockHutsModel", "detail", "I", false)
  | 20 => ("FlockHutsModel", "about", "I", false)
  | 21 => ("FlockHutsModel", "answer", "I", false)
  | 22 => ("FlockHutsModel", "spot", "I", false)
  | 23 => ("FlockHutsModel", "end", "I", false)
  | 24 => ("FlockHutsModel", "orders", "I", false)
  | _ => ("FlockHutsModel", "isWrong", "Z", false)
def tyX3 : Nat → FieldType := fun k => match k with
  | 0 => .int
  | 1 => .array .int
  | 2 => .array .int
  | 3 => .array .int
  | 4 => .array .int
  | 5 => .array .int
  | 6 => .array .int
  | 7 => .int
  | 8 => .boolean
  | 9 => .array .int
  | 10 => .array .int
  | 11 => .array .int
  | 12 => .array .int
  | 13 => .array .int
  | 14 => .int
  | 15 => .int
  | 16 => .int
  | 17 => .int
  | 18 => .int
  | 19 => .int
  | 20 => .int
  | 21 => .int
  | 22 => .int
  | 23 => .int
  | 24 => .int
  | _ => .boolean
abbrev wsX30 : List Cond := u_ws RX3 TX3 26
set_option maxRecDepth 100000 in
theorem nmX3 : ∀ a, a < 26 → ∀ b, b < 26 → a ≠ b → (TX3 a).2.1 ≠ (TX3 b).2.1 := by decide +kernel
set_option maxRecDepth 100000 in
theorem tyX3_ok : ∀ k, k < 26 → parseFieldDescriptor (TX3 k).2.2.1 = some (tyX3 k) := by decide +kernel
abbrev cX3_init : ByteArray := prog_14_method_1_code
def yX3_init : MethodName := ⟨RX3, "<init>", "()V"⟩
def dkwX3_init_4 : List UInt8 := [42, 2, 181, 0, 43, 42, 2, 181, 0, 47, 42, 182, 0, 50, 177]
abbrev dktX3_init_4 : List UInt8 := dkwX3_init_4 ++ []
def dkwX3_init_3 : List UInt8 := [42, 16, 80, 188, 10, 181, 0, 34, 42, 16, 6, 188, 10, 181, 0, 37, 42, 16, 6, 188, 10, 181, 0, 40]
abbrev dktX3_init_3 : List UInt8 := dkwX3_init_3 ++ dktX3_init_4
def dkwX3_init_2 : List UInt8 := [16, 93, 188, 10, 181, 0, 25, 42, 16, 60, 188, 10, 181, 0, 28, 42, 17, 0, 240, 188, 10, 181, 0, 31]
abbrev dktX3_init_2 : List UInt8 := dkwX3_init_2 ++ dktX3_init_3
def dkwX3_init_1 : List UInt8 := [188, 10, 181, 0, 16, 42, 17, 2, 232, 188, 10, 181, 0, 19, 42, 16, 93, 188, 10, 181, 0, 22, 42]
abbrev dktX3_init_1 : List UInt8 := dkwX3_init_1 ++ dktX3_init_2
def dkwX3_init_0 : List UInt8 := [42, 183, 0, 1, 42, 16, 93, 188, 10, 181, 0, 7, 42, 16, 93, 188, 10, 181, 0, 13, 42, 16, 93]
abbrev dktX3_init_0 : List UInt8 := dkwX3_init_0 ++ dktX3_init_1
theorem dksX3_init_0 : cX3_init.data.toList.drop 0 = dktX3_init_0 := by decide +kernel
theorem dksX3_init_1 : cX3_init.data.toList.drop 23 = dktX3_init_1 := dk_seg dksX3_init_0 23 rfl rfl
theorem dksX3_init_2 : cX3_init.data.toList.drop 46 = dktX3_init_2 := dk_seg dksX3_init_1 23 rfl rfl
theorem dksX3_init_3 : cX3_init.data.toList.drop 70 = dktX3_init_3 := dk_seg dksX3_init_2 24 rfl rfl
theorem dksX3_init_4 : cX3_init.data.toList.drop 94 = dktX3_init_4 := dk_seg dksX3_init_3 24 rfl rfl
theorem dX3_init_0 : decode cX3_init 0 = .ok (.aload_n 0, 1) := dk_42 (dk_at dksX3_init_0 0 rfl rfl)
theorem dX3_init_1 : decode cX3_init 1 = .ok (.invokespecial 1, 3) := dk_183 0 1 (dk_at dksX3_init_0 1 rfl rfl)
theorem dX3_init_4 : decode cX3_init 4 = .ok (.aload_n 0, 1) := dk_42 (dk_at dksX3_init_0 4 rfl rfl)
theorem dX3_init_5 : decode cX3_init 5 = .ok (.bipush 93, 2) := dk_16 93 (dk_at dksX3_init_0 5 rfl rfl)
theorem dX3_init_7 : decode cX3_init 7 = .ok (.newarray .int, 2) := dk_188_10 (dk_at dksX3_init_0 7 rfl rfl)
theorem dX3_init_9 : decode cX3_init 9 = .ok (.putfield 7, 3) := dk_181 0 7 (dk_at dksX3_init_0 9 rfl rfl)
theorem dX3_init_12 : decode cX3_init 12 = .ok (.aload_n 0, 1) := dk_42 (dk_at dksX3_init_0 12 rfl rfl)
theorem dX3_init_13 : decode cX3_init 13 = .ok (.bipush 93, 2) := dk_16 93 (dk_at dksX3_init_0 13 rfl rfl)
theorem dX3_init_15 : decode cX3_init 15 = .ok (.newarray .int, 2) := dk_188_10 (dk_at dksX3_init_0 15 rfl rfl)
theorem dX3_init_17 : decode cX3_init 17 = .ok (.putfield 13, 3) := dk_181 0 13 (dk_at dksX3_init_0 17 rfl rfl)
theorem dX3_init_20 : decode cX3_init 20 = .ok (.aload_n 0, 1) := dk_42 (dk_at dksX3_init_0 20 rfl rfl)
theorem dX3_init_21 : decode cX3_init 21 = .ok (.bipush 93, 2) := dk_16 93 (dk_at dksX3_init_0 21 rfl rfl)
theorem dX3_init_23 : decode cX3_init 23 = .ok (.newarray .int, 2) := dk_188_10 (dk_at dksX3_init_1 0 rfl rfl)
theorem dX3_init_25 : decode cX3_init 25 = .ok (.putfield 16, 3) := dk_181 0 16 (dk_at dksX3_init_1 2 rfl rfl)
theorem dX3_init_28 : decode cX3_init 28 = .ok (.aload_n 0, 1) := dk_42 (dk_at dksX3_init_1 5 rfl rfl)
theorem dX3_init_29 : decode cX3_init 29 = .ok (.sipush 744, 3) := dk_17 2 232 (dk_at dksX3_init_1 6 rfl rfl)
theorem dX3_init_32 : decode cX3_init 32 = .ok (.newarray .int, 2) := dk_188_10 (dk_at dksX3_init_1 9 rfl rfl)
theorem dX3_init_34 : decode cX3_init 34 = .ok (.putfield 19, 3) := dk_181 0 19 (dk_at dksX3_init_1 11 rfl rfl)
theorem dX3_init_37 : decode cX3_init 37 = .ok (.aload_n 0, 1) := dk_42 (dk_at dksX3_init_1 14 rfl rfl)
theorem dX3_init_38 : decode cX3_init 38 = .ok (.bipush 93, 2) := dk_16 93 (dk_at dksX3_init_1 15 rfl rfl)
theorem dX3_init_40 : decode cX3_init 40 = .ok (.newarray .int, 2) := dk_188_10 (dk_at dksX3_init_1 17 rfl rfl)
theorem dX3_init_42 : decode cX3_init 42 = .ok (.putfield 22, 3) := dk_181 0 22 (dk_at dksX3_init_1 19 rfl rfl)
theorem dX3_init_45 : decode cX3_init 45 = .ok (.aload_n 0, 1) := dk_42 (dk_at dksX3_init_1 22 rfl rfl)
theorem dX3_init_46 : decode cX3_init 46 = .ok (.bipush 93, 2) := dk_16 93 (dk_at dksX3_init_2 0 rfl rfl)
theorem dX3_init_48 : decode cX3_init 48 = .ok (.newarray .int, 2) := dk_188_10 (dk_at dksX3_init_2 2 rfl rfl)
theorem dX3_init_50 : decode cX3_init 50 = .ok (.putfield 25, 3) := dk_181 0 25 (dk_at dksX3_init_2 4 rfl rfl)
theorem dX3_init_53 : decode cX3_init 53 = .ok (.aload_n 0, 1) := dk_42 (dk_at dksX3_init_2 7 rfl rfl)
theorem dX3_init_54 : decode cX3_init 54 = .ok (.bipush 60, 2) := dk_16 60 (dk_at dksX3_init_2 8 rfl rfl)
theorem dX3_init_56 : decode cX3_init 56 = .ok (.newarray .int, 2) := dk_188_10 (dk_at dksX3_init_2 10 rfl rfl)
theorem dX3_init_58 : decode cX3_init 58 = .ok (.putfield 28, 3) := dk_181 0 28 (dk_at dksX3_init_2 12 rfl rfl)
theorem dX3_init_61 : decode cX3_init 61 = .ok (.aload_n 0, 1) := dk_42 (dk_at dksX3_init_2 15 rfl rfl)
theorem dX3_init_62 : decode cX3_init 62 = .ok (.sipush 240, 3) := dk_17 0 240 (dk_at dksX3_init_2 16 rfl rfl)
theorem dX3_init_65 : decode cX3_init 65 = .ok (.newarray .int, 2) := dk_188_10 (dk_at dksX3_init_2 19 rfl rfl)
theorem dX3_init_67 : decode cX3_init 67 = .ok (.putfield 31, 3) := dk_181 0 31 (dk_at dksX3_init_2 21 rfl rfl)
theorem dX3_init_70 : decode cX3_init 70 = .ok (.aload_n 0, 1) := dk_42 (dk_at dksX3_init_3 0 rfl rfl)
theorem dX3_init_71 : decode cX3_init 71 = .ok (.bipush 80, 2) := dk_16 80 (dk_at dksX3_init_3 1 rfl rfl)
theorem dX3_init_73 : decode cX3_init 73 = .ok (.newarray .int, 2) := dk_188_10 (dk_at dksX3_init_3 3 rfl rfl)
theorem dX3_init_75 : decode cX3_init 75 = .ok (.putfield 34, 3) := dk_181 0 34 (dk_at dksX3_init_3 5 rfl rfl)
theorem dX3_init_78 : decode cX3_init 78 = .ok (.aload_n 0, 1) := dk_42 (dk_at dksX3_init_3 8 rfl rfl)
theorem dX3_init_79 : decode cX3_init 79 = .ok (.bipush 6, 2) := dk_16 6 (dk_at dksX3_init_3 9 rfl rfl)
theorem dX3_init_81 : decode cX3_init 81 = .ok (.newarray .int, 2) := dk_188_10 (dk_at dksX3_init_3 11 rfl rfl)
theorem dX3_init_83 : decode cX3_init 83 = .ok (.putfield 37, 3) := dk_181 0 37 (dk_at dksX3_init_3 13 rfl rfl)
theorem dX3_init_86 : decode cX3_init 86 = .ok (.aload_n 0, 1) := dk_42 (dk_at dksX3_init_3 16 rfl rfl)
theorem dX3_init_87 : decode cX3_init 87 = .ok (.bipush 6, 2) := dk_16 6 (dk_at dksX3_init_3 17 rfl rfl)
theorem dX3_init_89 : decode cX3_init 89 = .ok (.newarray .int, 2) := dk_188_10 (dk_at dksX3_init_3 19 rfl rfl)
theorem dX3_init_91 : decode cX3_init 91 = .ok (.putfield 40, 3) := dk_181 0 40 (dk_at dksX3_init_3 21 rfl rfl)
theorem dX3_init_94 : decode cX3_init 94 = .ok (.aload_n 0, 1) := dk_42 (dk_at dksX3_init_4 0 rfl rfl)
theorem dX3_init_95 : decode cX3_init 95 = .ok (.iconst (-1), 1) := dk_2 (dk_at dksX3_init_4 1 rfl rfl)
theorem dX3_init_96 : decode cX3_init 96 = .ok (.putfield 43, 3) := dk_181 0 43 (dk_at dksX3_init_4 2 rfl rfl)
theorem dX3_init_99 : decode cX3_init 99 = .ok (.aload_n 0, 1) := dk_42 (dk_at dksX3_init_4 5 rfl rfl)
theorem dX3_init_100 : decode cX3_init 100 = .ok (.iconst (-1), 1) := dk_2 (dk_at dksX3_init_4 6 rfl rfl)
theorem dX3_init_101 : decode cX3_init 101 = .ok (.putfield 47, 3) := dk_181 0 47 (dk_at dksX3_init_4 7 rfl rfl)
theorem dX3_init_104 : decode cX3_init 104 = .ok (.aload_n 0, 1) := dk_42 (dk_at dksX3_init_4 10 rfl rfl)
theorem dX3_init_105 : decode cX3_init 105 = .ok (.invokevirtual 50, 3) := dk_182 0 50 (dk_at dksX3_init_4 11 rfl rfl)
theorem dX3_init_108 : decode cX3_init 108 = .ok (.return_, 1) := dk_177 (dk_at dksX3_init_4 14 rfl rfl)
abbrev cX3_begins : ByteArray := prog_14_method_5_code
def yX3_begins : MethodName := ⟨RX3, "begins", "()V"⟩
def dkwX3_begins_1 : List UInt8 := [6, 162, 0, 19, 42, 180, 0, 7, 16, 6, 27, 96, 2, 79, 132, 1, 1, 167, 255, 238, 177]
abbrev dktX3_begins_1 : List UInt8 := dkwX3_begins_1 ++ []
def dkwX3_begins_0 : List UInt8 := [3, 60, 27, 16, 93, 162, 0, 16, 42, 180, 0, 7, 27, 3, 79, 132, 1, 1, 167, 255, 240, 3, 60, 27]
abbrev dktX3_begins_0 : List UInt8 := dkwX3_begins_0 ++ dktX3_begins_1
theorem dksX3_begins_0 : cX3_begins.data.toList.drop 0 = dktX3_begins_0 := by decide +kernel
theorem dksX3_begins_1 : cX3_begins.data.toList.drop 24 = dktX3_begins_1 := dk_seg dksX3_begins_0 24 rfl rfl
theorem dX3_begins_0 : decode cX3_begins 0 = .ok (.iconst 0, 1) := dk_3 (dk_at dksX3_begins_0 0 rfl rfl)
theorem dX3_begins_1 : decode cX3_begins 1 = .ok (.istore_n 1, 1) := dk_60 (dk_at dksX3_begins_0 1 rfl rfl)
theorem dX3_begins_2 : decode cX3_begins 2 = .ok (.iload_n 1, 1) := dk_27 (dk_at dksX3_begins_0 2 rfl rfl)
theorem dX3_begins_3 : decode cX3_begins 3 = .ok (.bipush 93, 2) := dk_16 93 (dk_at dksX3_begins_0 3 rfl rfl)
theorem dX3_begins_5 : decode cX3_begins 5 = .ok (.if_icmp .ge 16, 3) := dk_162 0 16 (dk_at dksX3_begins_0 5 rfl rfl)
theorem dX3_begins_8 : decode cX3_begins 8 = .ok (.aload_n 0, 1) := dk_42 (dk_at dksX3_begins_0 8 rfl rfl)
theorem dX3_begins_9 : decode cX3_begins 9 = .ok (.getfield 7, 3) := dk_180 0 7 (dk_at dksX3_begins_0 9 rfl rfl)
theorem dX3_begins_12 : decode cX3_begins 12 = .ok (.iload_n 1, 1) := dk_27 (dk_at dksX3_begins_0 12 rfl rfl)
theorem dX3_begins_13 : decode cX3_begins 13 = .ok (.iconst 0, 1) := dk_3 (dk_at dksX3_begins_0 13 rfl rfl)
theorem dX3_begins_14 : decode cX3_begins 14 = .ok (.iastore, 1) := dk_79 (dk_at dksX3_begins_0 14 rfl rfl)
theorem dX3_begins_15 : decode cX3_begins 15 = .ok (.iinc 1 1, 3) := dk_132 1 1 (dk_at dksX3_begins_0 15 rfl rfl)
theorem dX3_begins_18 : decode cX3_begins 18 = .ok (.goto (-16), 3) := dk_167 255 240 (dk_at dksX3_begins_0 18 rfl rfl)
theorem dX3_begins_21 : decode cX3_begins 21 = .ok (.iconst 0, 1) := dk_3 (dk_at dksX3_begins_0 21 rfl rfl)
theorem dX3_begins_22 : decode cX3_begins 22 = .ok (.istore_n 1, 1) := dk_60 (dk_at dksX3_begins_0 22 rfl rfl)
theorem dX3_begins_23 : decode cX3_begins 23 = .ok (.iload_n 1, 1) := dk_27 (dk_at dksX3_begins_0 23 rfl rfl)
theorem dX3_begins_24 : decode cX3_begins 24 = .ok (.iconst 3, 1) := dk_6 (dk_at dksX3_begins_1 0 rfl rfl)
theorem dX3_begins_25 : decode cX3_begins 25 = .ok (.if_icmp .ge 19, 3) := dk_162 0 19 (dk_at dksX3_begins_1 1 rfl rfl)
theorem dX3_begins_28 : decode cX3_begins 28 = .ok (.aload_n 0, 1) := dk_42 (dk_at dksX3_begins_1 4 rfl rfl)
theorem dX3_begins_29 : decode cX3_begins 29 = .ok (.getfield 7, 3) := dk_180 0 7 (dk_at dksX3_begins_1 5 rfl rfl)
theorem dX3_begins_32 : decode cX3_begins 32 = .ok (.bipush 6, 2) := dk_16 6 (dk_at dksX3_begins_1 8 rfl rfl)
theorem dX3_begins_34 : decode cX3_begins 34 = .ok (.iload_n 1, 1) := dk_27 (dk_at dksX3_begins_1 10 rfl rfl)
theorem dX3_begins_35 : decode cX3_begins 35 = .ok (.iadd, 1) := dk_96 (dk_at dksX3_begins_1 11 rfl rfl)
theorem dX3_begins_36 : decode cX3_begins 36 = .ok (.iconst (-1), 1) := dk_2 (dk_at dksX3_begins_1 12 rfl rfl)
theorem dX3_begins_37 : decode cX3_begins 37 = .ok (.iastore, 1) := dk_79 (dk_at dksX3_begins_1 13 rfl rfl)
theorem dX3_begins_38 : decode cX3_begins 38 = .ok (.iinc 1 1, 3) := dk_132 1 1 (dk_at dksX3_begins_1 14 rfl rfl)
theorem dX3_begins_41 : decode cX3_begins 41 = .ok (.goto (-18), 3) := dk_167 255 238 (dk_at dksX3_begins_1 17 rfl rfl)
theorem dX3_begins_44 : decode cX3_begins 44 = .ok (.return_, 1) := dk_177 (dk_at dksX3_begins_1 20 rfl rfl)
abbrev cX3_thrown : ByteArray := prog_14_method_2_code
def yX3_thrown : MethodName := ⟨RX3, "thrown", "()I"⟩
theorem dX3_thrown_0 : decode cX3_thrown 0 = .ok (.aload_n 0, 1) := by decide +kernel
theorem dX3_thrown_1 : decode cX3_thrown 1 = .ok (.getfield 53, 3) := by decide +kernel
theorem dX3_thrown_4 : decode cX3_thrown 4 = .ok (.ireturn, 1) := by decide +kernel
abbrev cX3_clear : ByteArray := prog_14_method_43_code
def yX3_clear : MethodName := ⟨RX3, "clear", "()I"⟩
def dkwX3_clear_0 : List UInt8 := [42, 3, 181, 0, 53, 42, 180, 0, 7, 3, 46, 60, 42, 182, 0, 50, 42, 3, 181, 0, 56, 27, 172]
abbrev dktX3_clear_0 : List UInt8 := dkwX3_clear_0 ++ []
theorem dksX3_clear_0 : cX3_clear.data.toList.drop 0 = dktX3_clear_0 := by decide +kernel
theorem dX3_clear_0 : decode cX3_clear 0 = .ok (.aload_n 0, 1) := dk_42 (dk_at dksX3_clear_0 0 rfl rfl)
theorem dX3_clear_1 : decode cX3_clear 1 = .ok (.iconst 0, 1) := dk_3 (dk_at dksX3_clear_0 1 rfl rfl)
theorem dX3_clear_2 : decode cX3_clear 2 = .ok (.putfield 53, 3) := dk_181 0 53 (dk_at dksX3_clear_0 2 rfl rfl)
theorem dX3_clear_5 : decode cX3_clear 5 = .ok (.aload_n 0, 1) := dk_42 (dk_at dksX3_clear_0 5 rfl rfl)
theorem dX3_clear_6 : decode cX3_clear 6 = .ok (.getfield 7, 3) := dk_180 0 7 (dk_at dksX3_clear_0 6 rfl rfl)
theorem dX3_clear_9 : decode cX3_clear 9 = .ok (.iconst 0, 1) := dk_3 (dk_at dksX3_clear_0 9 rfl rfl)
theorem dX3_clear_10 : decode cX3_clear 10 = .ok (.iaload, 1) := dk_46 (dk_at dksX3_clear_0 10 rfl rfl)
theorem dX3_clear_11 : decode cX3_clear 11 = .ok (.istore_n 1, 1) := dk_60 (dk_at dksX3_clear_0 11 rfl rfl)
theorem dX3_clear_12 : decode cX3_clear 12 = .ok (.aload_n 0, 1) := dk_42 (dk_at dksX3_clear_0 12 rfl rfl)
theorem dX3_clear_13 : decode cX3_clear 13 = .ok (.invokevirtual 50, 3) := dk_182 0 50 (dk_at dksX3_clear_0 13 rfl rfl)
theorem dX3_clear_16 : decode cX3_clear 16 = .ok (.aload_n 0, 1) := dk_42 (dk_at dksX3_clear_0 16 rfl rfl)
theorem dX3_clear_17 : decode cX3_clear 17 = .ok (.iconst 0, 1) := dk_3 (dk_at dksX3_clear_0 17 rfl rfl)
theorem dX3_clear_18 : decode cX3_clear 18 = .ok (.putfield 56, 3) := dk_181 0 56 (dk_at dksX3_clear_0 18 rfl rfl)
theorem dX3_clear_21 : decode cX3_clear 21 = .ok (.iload_n 1, 1) := dk_27 (dk_at dksX3_clear_0 21 rfl rfl)
theorem dX3_clear_22 : decode cX3_clear 22 = .ok (.ireturn, 1) := dk_172 (dk_at dksX3_clear_0 22 rfl rfl)
abbrev cX3_sheep : ByteArray := prog_14_method_44_code
def yX3_sheep : MethodName := ⟨RX3, "sheep", "(III)I"⟩
def dkwX3_sheep_0 : List UInt8 := [42, 182, 0, 149, 42, 42, 27, 28, 29, 182, 0, 152, 5, 182, 0, 155, 172]
abbrev dktX3_sheep_0 : List UInt8 := dkwX3_sheep_0 ++ []
theorem dksX3_sheep_0 : cX3_sheep.data.toList.drop 0 = dktX3_sheep_0 := by decide +kernel
theorem dX3_sheep_0 : decode cX3_sheep 0 = .ok (.aload_n 0, 1) := dk_42 (dk_at dksX3_sheep_0 0 rfl rfl)
theorem dX3_sheep_1 : decode cX3_sheep 1 = .ok (.invokevirtual 149, 3) := dk_182 0 149 (dk_at dksX3_sheep_0 1 rfl rfl)
theorem dX3_sheep_4 : decode cX3_sheep 4 = .ok (.aload_n 0, 1) := dk_42 (dk_at dksX3_sheep_0 4 rfl rfl)
theorem dX3_sheep_5 : decode cX3_sheep 5 = .ok (.aload_n 0, 1) := dk_42 (dk_at dksX3_sheep_0 5 rfl rfl)
theorem dX3_sheep_6 : decode cX3_sheep 6 = .ok (.iload_n 1, 1) := dk_27 (dk_at dksX3_sheep_0 6 rfl rfl)
theorem dX3_sheep_7 : decode cX3_sheep 7 = .ok (.iload_n 2, 1) := dk_28 (dk_at dksX3_sheep_0 7 rfl rfl)
theorem dX3_sheep_8 : decode cX3_sheep 8 = .ok (.iload_n 3, 1) := dk_29 (dk_at dksX3_sheep_0 8 rfl rfl)
theorem dX3_sheep_9 : decode cX3_sheep 9 = .ok (.invokevirtual 152, 3) := dk_182 0 152 (dk_at dksX3_sheep_0 9 rfl rfl)
theorem dX3_sheep_12 : decode cX3_sheep 12 = .ok (.iconst 2, 1) := dk_5 (dk_at dksX3_sheep_0 12 rfl rfl)
theorem dX3_sheep_13 : decode cX3_sheep 13 = .ok (.invokevirtual 155, 3) := dk_182 0 155 (dk_at dksX3_sheep_0 13 rfl rfl)
theorem dX3_sheep_16 : decode cX3_sheep 16 = .ok (.ireturn, 1) := dk_172 (dk_at dksX3_sheep_0 16 rfl rfl)
abbrev cX3_remembers : ByteArray := prog_14_method_6_code
def yX3_remembers : MethodName := ⟨RX3, "remembers", "()V"⟩
def dkwX3_remembers_1 : List UInt8 := [79, 132, 1, 1, 167, 255, 235, 177]
abbrev dktX3_remembers_1 : List UInt8 := dkwX3_remembers_1 ++ []
def dkwX3_remembers_0 : List UInt8 := [42, 3, 181, 0, 53, 3, 60, 27, 16, 93, 162, 0, 21, 42, 180, 0, 13, 27, 42, 180, 0, 7, 27, 46]
abbrev dktX3_remembers_0 : List UInt8 := dkwX3_remembers_0 ++ dktX3_remembers_1
theorem dksX3_remembers_0 : cX3_remembers.data.toList.drop 0 = dktX3_remembers_0 := by decide +kernel
theorem dksX3_remembers_1 : cX3_remembers.data.toList.drop 24 = dktX3_remembers_1 := dk_seg dksX3_remembers_0 24 rfl rfl
theorem dX3_remembers_0 : decode cX3_remembers 0 = .ok (.aload_n 0, 1) := dk_42 (dk_at dksX3_remembers_0 0 rfl rfl)
theorem dX3_remembers_1 : decode cX3_remembers 1 = .ok (.iconst 0, 1) := dk_3 (dk_at dksX3_remembers_0 1 rfl rfl)
theorem dX3_remembers_2 : decode cX3_remembers 2 = .ok (.putfield 53, 3) := dk_181 0 53 (dk_at dksX3_remembers_0 2 rfl rfl)
theorem dX3_remembers_5 : decode cX3_remembers 5 = .ok (.iconst 0, 1) := dk_3 (dk_at dksX3_remembers_0 5 rfl rfl)
theorem dX3_remembers_6 : decode cX3_remembers 6 = .ok (.istore_n 1, 1) := dk_60 (dk_at dksX3_remembers_0 6 rfl rfl)
theorem dX3_remembers_7 : decode cX3_remembers 7 = .ok (.iload_n 1, 1) := dk_27 (dk_at dksX3_remembers_0 7 rfl rfl)
theorem dX3_remembers_8 : decode cX3_remembers 8 = .ok (.bipush 93, 2) := dk_16 93 (dk_at dksX3_remembers_0 8 rfl rfl)
theorem dX3_remembers_10 : decode cX3_remembers 10 = .ok (.if_icmp .ge 21, 3) := dk_162 0 21 (dk_at dksX3_remembers_0 10 rfl rfl)
theorem dX3_remembers_13 : decode cX3_remembers 13 = .ok (.aload_n 0, 1) := dk_42 (dk_at dksX3_remembers_0 13 rfl rfl)
theorem dX3_remembers_14 : decode cX3_remembers 14 = .ok (.getfield 13, 3) := dk_180 0 13 (dk_at dksX3_remembers_0 14 rfl rfl)
theorem dX3_remembers_17 : decode cX3_remembers 17 = .ok (.iload_n 1, 1) := dk_27 (dk_at dksX3_remembers_0 17 rfl rfl)
theorem dX3_remembers_18 : decode cX3_remembers 18 = .ok (.aload_n 0, 1) := dk_42 (dk_at dksX3_remembers_0 18 rfl rfl)
theorem dX3_remembers_19 : decode cX3_remembers 19 = .ok (.getfield 7, 3) := dk_180 0 7 (dk_at dksX3_remembers_0 19 rfl rfl)
theorem dX3_remembers_22 : decode cX3_remembers 22 = .ok (.iload_n 1, 1) := dk_27 (dk_at dksX3_remembers_0 22 rfl rfl)
theorem dX3_remembers_23 : decode cX3_remembers 23 = .ok (.iaload, 1) := dk_46 (dk_at dksX3_remembers_0 23 rfl rfl)
theorem dX3_remembers_24 : decode cX3_remembers 24 = .ok (.iastore, 1) := dk_79 (dk_at dksX3_remembers_1 0 rfl rfl)
theorem dX3_remembers_25 : decode cX3_remembers 25 = .ok (.iinc 1 1, 3) := dk_132 1 1 (dk_at dksX3_remembers_1 1 rfl rfl)
theorem dX3_remembers_28 : decode cX3_remembers 28 = .ok (.goto (-21), 3) := dk_167 255 235 (dk_at dksX3_remembers_1 4 rfl rfl)
theorem dX3_remembers_31 : decode cX3_remembers 31 = .ok (.return_, 1) := dk_177 (dk_at dksX3_remembers_1 7 rfl rfl)
abbrev cX3_comes : ByteArray := prog_14_method_32_code
def yX3_comes : MethodName := ⟨RX3, "comes", "(III)I"⟩
def dkwX3_comes_4 : List UInt8 := [180, 0, 7, 3, 21, 4, 4, 96, 79, 42, 21, 4, 182, 0, 133, 172]
abbrev dktX3_comes_4 : List UInt8 := dkwX3_comes_4 ++ []
def dkwX3_comes_3 : List UInt8 := [21, 4, 96, 29, 79, 42, 180, 0, 7, 16, 63, 21, 4, 96, 42, 27, 28, 182, 0, 89, 79, 42]
abbrev dktX3_comes_3 : List UInt8 := dkwX3_comes_3 ++ dktX3_comes_4
def dkwX3_comes_2 : List UInt8 := [16, 9, 21, 4, 96, 27, 79, 42, 180, 0, 7, 16, 27, 21, 4, 96, 28, 79, 42, 180, 0, 7, 16, 45]
abbrev dktX3_comes_2 : List UInt8 := dkwX3_comes_2 ++ dktX3_comes_3
def dkwX3_comes_1 : List UInt8 := [3, 46, 54, 4, 21, 4, 16, 18, 160, 0, 11, 42, 4, 16, 18, 182, 0, 130, 172, 42, 180, 0, 7]
abbrev dktX3_comes_1 : List UInt8 := dkwX3_comes_1 ++ dktX3_comes_2
def dkwX3_comes_0 : List UInt8 := [27, 28, 184, 0, 126, 153, 0, 13, 29, 4, 16, 9, 184, 0, 78, 154, 0, 5, 2, 172, 42, 180, 0, 7]
abbrev dktX3_comes_0 : List UInt8 := dkwX3_comes_0 ++ dktX3_comes_1
theorem dksX3_comes_0 : cX3_comes.data.toList.drop 0 = dktX3_comes_0 := by decide +kernel
theorem dksX3_comes_1 : cX3_comes.data.toList.drop 24 = dktX3_comes_1 := dk_seg dksX3_comes_0 24 rfl rfl
theorem dksX3_comes_2 : cX3_comes.data.toList.drop 47 = dktX3_comes_2 := dk_seg dksX3_comes_1 23 rfl rfl
theorem dksX3_comes_3 : cX3_comes.data.toList.drop 71 = dktX3_comes_3 := dk_seg dksX3_comes_2 24 rfl rfl
theorem dksX3_comes_4 : cX3_comes.data.toList.drop 93 = dktX3_comes_4 := dk_seg dksX3_comes_3 22 rfl rfl
theorem dX3_comes_0 : decode cX3_comes 0 = .ok (.iload_n 1, 1) := dk_27 (dk_at dksX3_comes_0 0 rfl rfl)
theorem dX3_comes_1 : decode cX3_comes 1 = .ok (.iload_n 2, 1) := dk_28 (dk_at dksX3_comes_0 1 rfl rfl)
theorem dX3_comes_2 : decode cX3_comes 2 = .ok (.invokestatic 126, 3) := dk_184 0 126 (dk_at dksX3_comes_0 2 rfl rfl)
theorem dX3_comes_5 : decode cX3_comes 5 = .ok (.ifCond .eq 13, 3) := dk_153 0 13 (dk_at dksX3_comes_0 5 rfl rfl)
theorem dX3_comes_8 : decode cX3_comes 8 = .ok (.iload_n 3, 1) := dk_29 (dk_at dksX3_comes_0 8 rfl rfl)
theorem dX3_comes_9 : decode cX3_comes 9 = .ok (.iconst 1, 1) := dk_4 (dk_at dksX3_comes_0 9 rfl rfl)
theorem dX3_comes_10 : decode cX3_comes 10 = .ok (.bipush 9, 2) := dk_16 9 (dk_at dksX3_comes_0 10 rfl rfl)
theorem dX3_comes_12 : decode cX3_comes 12 = .ok (.invokestatic 78, 3) := dk_184 0 78 (dk_at dksX3_comes_0 12 rfl rfl)
theorem dX3_comes_15 : decode cX3_comes 15 = .ok (.ifCond .ne 5, 3) := dk_154 0 5 (dk_at dksX3_comes_0 15 rfl rfl)
theorem dX3_comes_18 : decode cX3_comes 18 = .ok (.iconst (-1), 1) := dk_2 (dk_at dksX3_comes_0 18 rfl rfl)
theorem dX3_comes_19 : decode cX3_comes 19 = .ok (.ireturn, 1) := dk_172 (dk_at dksX3_comes_0 19 rfl rfl)
theorem dX3_comes_20 : decode cX3_comes 20 = .ok (.aload_n 0, 1) := dk_42 (dk_at dksX3_comes_0 20 rfl rfl)
theorem dX3_comes_21 : decode cX3_comes 21 = .ok (.getfield 7, 3) := dk_180 0 7 (dk_at dksX3_comes_0 21 rfl rfl)
theorem dX3_comes_24 : decode cX3_comes 24 = .ok (.iconst 0, 1) := dk_3 (dk_at dksX3_comes_1 0 rfl rfl)
theorem dX3_comes_25 : decode cX3_comes 25 = .ok (.iaload, 1) := dk_46 (dk_at dksX3_comes_1 1 rfl rfl)
theorem dX3_comes_26 : decode cX3_comes 26 = .ok (.istore 4, 2) := dk_54 4 (dk_at dksX3_comes_1 2 rfl rfl)
theorem dX3_comes_28 : decode cX3_comes 28 = .ok (.iload 4, 2) := dk_21 4 (dk_at dksX3_comes_1 4 rfl rfl)
theorem dX3_comes_30 : decode cX3_comes 30 = .ok (.bipush 18, 2) := dk_16 18 (dk_at dksX3_comes_1 6 rfl rfl)
theorem dX3_comes_32 : decode cX3_comes 32 = .ok (.if_icmp .ne 11, 3) := dk_160 0 11 (dk_at dksX3_comes_1 8 rfl rfl)
theorem dX3_comes_35 : decode cX3_comes 35 = .ok (.aload_n 0, 1) := dk_42 (dk_at dksX3_comes_1 11 rfl rfl)
theorem dX3_comes_36 : decode cX3_comes 36 = .ok (.iconst 1, 1) := dk_4 (dk_at dksX3_comes_1 12 rfl rfl)
theorem dX3_comes_37 : decode cX3_comes 37 = .ok (.bipush 18, 2) := dk_16 18 (dk_at dksX3_comes_1 13 rfl rfl)
theorem dX3_comes_39 : decode cX3_comes 39 = .ok (.invokevirtual 130, 3) := dk_182 0 130 (dk_at dksX3_comes_1 15 rfl rfl)
theorem dX3_comes_42 : decode cX3_comes 42 = .ok (.ireturn, 1) := dk_172 (dk_at dksX3_comes_1 18 rfl rfl)
theorem dX3_comes_43 : decode cX3_comes 43 = .ok (.aload_n 0, 1) := dk_42 (dk_at dksX3_comes_1 19 rfl rfl)
theorem dX3_comes_44 : decode cX3_comes 44 = .ok (.getfield 7, 3) := dk_180 0 7 (dk_at dksX3_comes_1 20 rfl rfl)
theorem dX3_comes_47 : decode cX3_comes 47 = .ok (.bipush 9, 2) := dk_16 9 (dk_at dksX3_comes_2 0 rfl rfl)
theorem dX3_comes_49 : decode cX3_comes 49 = .ok (.iload 4, 2) := dk_21 4 (dk_at dksX3_comes_2 2 rfl rfl)
theorem dX3_comes_51 : decode cX3_comes 51 = .ok (.iadd, 1) := dk_96 (dk_at dksX3_comes_2 4 rfl rfl)
theorem dX3_comes_52 : decode cX3_comes 52 = .ok (.iload_n 1, 1) := dk_27 (dk_at dksX3_comes_2 5 rfl rfl)
theorem dX3_comes_53 : decode cX3_comes 53 = .ok (.iastore, 1) := dk_79 (dk_at dksX3_comes_2 6 rfl rfl)
theorem dX3_comes_54 : decode cX3_comes 54 = .ok (.aload_n 0, 1) := dk_42 (dk_at dksX3_comes_2 7 rfl rfl)
theorem dX3_comes_55 : decode cX3_comes 55 = .ok (.getfield 7, 3) := dk_180 0 7 (dk_at dksX3_comes_2 8 rfl rfl)
theorem dX3_comes_58 : decode cX3_comes 58 = .ok (.bipush 27, 2) := dk_16 27 (dk_at dksX3_comes_2 11 rfl rfl)
theorem dX3_comes_60 : decode cX3_comes 60 = .ok (.iload 4, 2) := dk_21 4 (dk_at dksX3_comes_2 13 rfl rfl)
theorem dX3_comes_62 : decode cX3_comes 62 = .ok (.iadd, 1) := dk_96 (dk_at dksX3_comes_2 15 rfl rfl)
theorem dX3_comes_63 : decode cX3_comes 63 = .ok (.iload_n 2, 1) := dk_28 (dk_at dksX3_comes_2 16 rfl rfl)
theorem dX3_comes_64 : decode cX3_comes 64 = .ok (.iastore, 1) := dk_79 (dk_at dksX3_comes_2 17 rfl rfl)
theorem dX3_comes_65 : decode cX3_comes 65 = .ok (.aload_n 0, 1) := dk_42 (dk_at dksX3_comes_2 18 rfl rfl)
theorem dX3_comes_66 : decode cX3_comes 66 = .ok (.getfield 7, 3) := dk_180 0 7 (dk_at dksX3_comes_2 19 rfl rfl)
theorem dX3_comes_69 : decode cX3_comes 69 = .ok (.bipush 45, 2) := dk_16 45 (dk_at dksX3_comes_2 22 rfl rfl)
theorem dX3_comes_71 : decode cX3_comes 71 = .ok (.iload 4, 2) := dk_21 4 (dk_at dksX3_comes_3 0 rfl rfl)
theorem dX3_comes_73 : decode cX3_comes 73 = .ok (.iadd, 1) := dk_96 (dk_at dksX3_comes_3 2 rfl rfl)
theorem dX3_comes_74 : decode cX3_comes 74 = .ok (.iload_n 3, 1) := dk_29 (dk_at dksX3_comes_3 3 rfl rfl)
theorem dX3_comes_75 : decode cX3_comes 75 = .ok (.iastore, 1) := dk_79 (dk_at dksX3_comes_3 4 rfl rfl)
theorem dX3_comes_76 : decode cX3_comes 76 = .ok (.aload_n 0, 1) := dk_42 (dk_at dksX3_comes_3 5 rfl rfl)
theorem dX3_comes_77 : decode cX3_comes 77 = .ok (.getfield 7, 3) := dk_180 0 7 (dk_at dksX3_comes_3 6 rfl rfl)
theorem dX3_comes_80 : decode cX3_comes 80 = .ok (.bipush 63, 2) := dk_16 63 (dk_at dksX3_comes_3 9 rfl rfl)
theorem dX3_comes_82 : decode cX3_comes 82 = .ok (.iload 4, 2) := dk_21 4 (dk_at dksX3_comes_3 11 rfl rfl)
theorem dX3_comes_84 : decode cX3_comes 84 = .ok (.iadd, 1) := dk_96 (dk_at dksX3_comes_3 13 rfl rfl)
theorem dX3_comes_85 : decode cX3_comes 85 = .ok (.aload_n 0, 1) := dk_42 (dk_at dksX3_comes_3 14 rfl rfl)
theorem dX3_comes_86 : decode cX3_comes 86 = .ok (.iload_n 1, 1) := dk_27 (dk_at dksX3_comes_3 15 rfl rfl)
theorem dX3_comes_87 : decode cX3_comes 87 = .ok (.iload_n 2, 1) := dk_28 (dk_at dksX3_comes_3 16 rfl rfl)
theorem dX3_comes_88 : decode cX3_comes 88 = .ok (.invokevirtual 89, 3) := dk_182 0 89 (dk_at dksX3_comes_3 17 rfl rfl)
theorem dX3_comes_91 : decode cX3_comes 91 = .ok (.iastore, 1) := dk_79 (dk_at dksX3_comes_3 20 rfl rfl)
theorem dX3_comes_92 : decode cX3_comes 92 = .ok (.aload_n 0, 1) := dk_42 (dk_at dksX3_comes_3 21 rfl rfl)
theorem dX3_comes_93 : decode cX3_comes 93 = .ok (.getfield 7, 3) := dk_180 0 7 (dk_at dksX3_comes_4 0 rfl rfl)
theorem dX3_comes_96 : decode cX3_comes 96 = .ok (.iconst 0, 1) := dk_3 (dk_at dksX3_comes_4 3 rfl rfl)
theorem dX3_comes_97 : decode cX3_comes 97 = .ok (.iload 4, 2) := dk_21 4 (dk_at dksX3_comes_4 4 rfl rfl)
theorem dX3_comes_99 : decode cX3_comes 99 = .ok (.iconst 1, 1) := dk_4 (dk_at dksX3_comes_4 6 rfl rfl)
theorem dX3_comes_100 : decode cX3_comes 100 = .ok (.iadd, 1) := dk_96 (dk_at dksX3_comes_4 7 rfl rfl)
theorem dX3_comes_101 : decode cX3_comes 101 = .ok (.iastore, 1) := dk_79 (dk_at dksX3_comes_4 8 rfl rfl)
theorem dX3_comes_102 : decode cX3_comes 102 = .ok (.aload_n 0, 1) := dk_42 (dk_at dksX3_comes_4 9 rfl rfl)
theorem dX3_comes_103 : decode cX3_comes 103 = .ok (.iload 4, 2) := dk_21 4 (dk_at dksX3_comes_4 10 rfl rfl)
theorem dX3_comes_105 : decode cX3_comes 105 = .ok (.invokevirtual 133, 3) := dk_182 0 133 (dk_at dksX3_comes_4 12 rfl rfl)
theorem dX3_comes_108 : decode cX3_comes 108 = .ok (.ireturn, 1) := dk_172 (dk_at dksX3_comes_4 15 rfl rfl)
abbrev cX3_isPlace : ByteArray := prog_14_method_13_code
def yX3_isPlace : MethodName := ⟨RX3, "isPlace", "(II)Z"⟩
def dkwX3_isPlace_1 : List UInt8 := [3, 172]
abbrev dktX3_isPlace_1 : List UInt8 := dkwX3_isPlace_1 ++ []
def dkwX3_isPlace_0 : List UInt8 := [26, 3, 16, 99, 184, 0, 78, 153, 0, 17, 27, 3, 16, 99, 184, 0, 78, 153, 0, 7, 4, 167, 0, 4]
abbrev dktX3_isPlace_0 : List UInt8 := dkwX3_isPlace_0 ++ dktX3_isPlace_1
theorem dksX3_isPlace_0 : cX3_isPlace.data.toList.drop 0 = dktX3_isPlace_0 := by decide +kernel
theorem dksX3_isPlace_1 : cX3_isPlace.data.toList.drop 24 = dktX3_isPlace_1 := dk_seg dksX3_isPlace_0 24 rfl rfl
theorem dX3_isPlace_0 : decode cX3_isPlace 0 = .ok (.iload_n 0, 1) := dk_26 (dk_at dksX3_isPlace_0 0 rfl rfl)
theorem dX3_isPlace_1 : decode cX3_isPlace 1 = .ok (.iconst 0, 1) := dk_3 (dk_at dksX3_isPlace_0 1 rfl rfl)
theorem dX3_isPlace_2 : decode cX3_isPlace 2 = .ok (.bipush 99, 2) := dk_16 99 (dk_at dksX3_isPlace_0 2 rfl rfl)
theorem dX3_isPlace_4 : decode cX3_isPlace 4 = .ok (.invokestatic 78, 3) := dk_184 0 78 (dk_at dksX3_isPlace_0 4 rfl rfl)
theorem dX3_isPlace_7 : decode cX3_isPlace 7 = .ok (.ifCond .eq 17, 3) := dk_153 0 17 (dk_at dksX3_isPlace_0 7 rfl rfl)
theorem dX3_isPlace_10 : decode cX3_isPlace 10 = .ok (.iload_n 1, 1) := dk_27 (dk_at dksX3_isPlace_0 10 rfl rfl)
theorem dX3_isPlace_11 : decode cX3_isPlace 11 = .ok (.iconst 0, 1) := dk_3 (dk_at dksX3_isPlace_0 11 rfl rfl)
theorem dX3_isPlace_12 : decode cX3_isPlace 12 = .ok (.bipush 99, 2) := dk_16 99 (dk_at dksX3_isPlace_0 12 rfl rfl)
theorem dX3_isPlace_14 : decode cX3_isPlace 14 = .ok (.invokestatic 78, 3) := dk_184 0 78 (dk_at dksX3_isPlace_0 14 rfl rfl)
theorem dX3_isPlace_17 : decode cX3_isPlace 17 = .ok (.ifCond .eq 7, 3) := dk_153 0 7 (dk_at dksX3_isPlace_0 17 rfl rfl)
theorem dX3_isPlace_20 : decode cX3_isPlace 20 = .ok (.iconst 1, 1) := dk_4 (dk_at dksX3_isPlace_0 20 rfl rfl)
theorem dX3_isPlace_21 : decode cX3_isPlace 21 = .ok (.goto 4, 3) := dk_167 0 4 (dk_at dksX3_isPlace_0 21 rfl rfl)
theorem dX3_isPlace_24 : decode cX3_isPlace 24 = .ok (.iconst 0, 1) := dk_3 (dk_at dksX3_isPlace_1 0 rfl rfl)
theorem dX3_isPlace_25 : decode cX3_isPlace 25 = .ok (.ireturn, 1) := dk_172 (dk_at dksX3_isPlace_1 1 rfl rfl)
abbrev cX3_in : ByteArray := prog_14_method_4_code
def yX3_in : MethodName := ⟨RX3, "in", "(III)Z"⟩
def dkwX3_in_0 : List UInt8 := [26, 27, 161, 0, 12, 26, 28, 163, 0, 7, 4, 167, 0, 4, 3, 172]
abbrev dktX3_in_0 : List UInt8 := dkwX3_in_0 ++ []
theorem dksX3_in_0 : cX3_in.data.toList.drop 0 = dktX3_in_0 := by decide +kernel
theorem dX3_in_0 : decode cX3_in 0 = .ok (.iload_n 0, 1) := dk_26 (dk_at dksX3_in_0 0 rfl rfl)
theorem dX3_in_1 : decode cX3_in 1 = .ok (.iload_n 1, 1) := dk_27 (dk_at dksX3_in_0 1 rfl rfl)
theorem dX3_in_2 : decode cX3_in 2 = .ok (.if_icmp .lt 12, 3) := dk_161 0 12 (dk_at dksX3_in_0 2 rfl rfl)
theorem dX3_in_5 : decode cX3_in 5 = .ok (.iload_n 0, 1) := dk_26 (dk_at dksX3_in_0 5 rfl rfl)
theorem dX3_in_6 : decode cX3_in 6 = .ok (.iload_n 2, 1) := dk_28 (dk_at dksX3_in_0 6 rfl rfl)
theorem dX3_in_7 : decode cX3_in 7 = .ok (.if_icmp .gt 7, 3) := dk_163 0 7 (dk_at dksX3_in_0 7 rfl rfl)
theorem dX3_in_10 : decode cX3_in 10 = .ok (.iconst 1, 1) := dk_4 (dk_at dksX3_in_0 10 rfl rfl)
theorem dX3_in_11 : decode cX3_in 11 = .ok (.goto 4, 3) := dk_167 0 4 (dk_at dksX3_in_0 11 rfl rfl)
theorem dX3_in_14 : decode cX3_in 14 = .ok (.iconst 0, 1) := dk_3 (dk_at dksX3_in_0 14 rfl rfl)
theorem dX3_in_15 : decode cX3_in 15 = .ok (.ireturn, 1) := dk_172 (dk_at dksX3_in_0 15 rfl rfl)
abbrev cX3_refused : ByteArray := prog_14_method_8_code
def yX3_refused : MethodName := ⟨RX3, "refused", "(II)I"⟩
def dkwX3_refused_0 : List UInt8 := [42, 28, 181, 0, 59, 27, 172]
abbrev dktX3_refused_0 : List UInt8 := dkwX3_refused_0 ++ []
theorem dksX3_refused_0 : cX3_refused.data.toList.drop 0 = dktX3_refused_0 := by decide +kernel
theorem dX3_refused_0 : decode cX3_refused 0 = .ok (.aload_n 0, 1) := dk_42 (dk_at dksX3_refused_0 0 rfl rfl)
theorem dX3_refused_1 : decode cX3_refused 1 = .ok (.iload_n 2, 1) := dk_28 (dk_at dksX3_refused_0 1 rfl rfl)
theorem dX3_refused_2 : decode cX3_refused 2 = .ok (.putfield 59, 3) := dk_181 0 59 (dk_at dksX3_refused_0 2 rfl rfl)
theorem dX3_refused_5 : decode cX3_refused 5 = .ok (.iload_n 1, 1) := dk_27 (dk_at dksX3_refused_0 5 rfl rfl)
theorem dX3_refused_6 : decode cX3_refused 6 = .ok (.ireturn, 1) := dk_172 (dk_at dksX3_refused_0 6 rfl rfl)
abbrev cX3_nearestTo : ByteArray := prog_14_method_17_code
def yX3_nearestTo : MethodName := ⟨RX3, "nearestTo", "(II)I"⟩
def dkwX3_nearestTo_2 : List UInt8 := [29, 172]
abbrev dktX3_nearestTo_2 : List UInt8 := dkwX3_nearestTo_2 ++ []
def dkwX3_nearestTo_1 : List UInt8 := [21, 4, 182, 0, 85, 42, 27, 28, 29, 182, 0, 85, 162, 0, 6, 21, 4, 62, 132, 4, 1, 167, 255, 216]
abbrev dktX3_nearestTo_1 : List UInt8 := dkwX3_nearestTo_1 ++ dktX3_nearestTo_2
def dkwX3_nearestTo_0 : List UInt8 := [2, 62, 3, 54, 4, 21, 4, 42, 180, 0, 7, 4, 46, 162, 0, 35, 29, 2, 159, 0, 21, 42, 27, 28]
abbrev dktX3_nearestTo_0 : List UInt8 := dkwX3_nearestTo_0 ++ dktX3_nearestTo_1
theorem dksX3_nearestTo_0 : cX3_nearestTo.data.toList.drop 0 = dktX3_nearestTo_0 := by decide +kernel
theorem dksX3_nearestTo_1 : cX3_nearestTo.data.toList.drop 24 = dktX3_nearestTo_1 := dk_seg dksX3_nearestTo_0 24 rfl rfl
theorem dksX3_nearestTo_2 : cX3_nearestTo.data.toList.drop 48 = dktX3_nearestTo_2 := dk_seg dksX3_nearestTo_1 24 rfl rfl
theorem dX3_nearestTo_0 : decode cX3_nearestTo 0 = .ok (.iconst (-1), 1) := dk_2 (dk_at dksX3_nearestTo_0 0 rfl rfl)
theorem dX3_nearestTo_1 : decode cX3_nearestTo 1 = .ok (.istore_n 3, 1) := dk_62 (dk_at dksX3_nearestTo_0 1 rfl rfl)
theorem dX3_nearestTo_2 : decode cX3_nearestTo 2 = .ok (.iconst 0, 1) := dk_3 (dk_at dksX3_nearestTo_0 2 rfl rfl)
theorem dX3_nearestTo_3 : decode cX3_nearestTo 3 = .ok (.istore 4, 2) := dk_54 4 (dk_at dksX3_nearestTo_0 3 rfl rfl)
theorem dX3_nearestTo_5 : decode cX3_nearestTo 5 = .ok (.iload 4, 2) := dk_21 4 (dk_at dksX3_nearestTo_0 5 rfl rfl)
theorem dX3_nearestTo_7 : decode cX3_nearestTo 7 = .ok (.aload_n 0, 1) := dk_42 (dk_at dksX3_nearestTo_0 7 rfl rfl)
theorem dX3_nearestTo_8 : decode cX3_nearestTo 8 = .ok (.getfield 7, 3) := dk_180 0 7 (dk_at dksX3_nearestTo_0 8 rfl rfl)
theorem dX3_nearestTo_11 : decode cX3_nearestTo 11 = .ok (.iconst 1, 1) := dk_4 (dk_at dksX3_nearestTo_0 11 rfl rfl)
theorem dX3_nearestTo_12 : decode cX3_nearestTo 12 = .ok (.iaload, 1) := dk_46 (dk_at dksX3_nearestTo_0 12 rfl rfl)
theorem dX3_nearestTo_13 : decode cX3_nearestTo 13 = .ok (.if_icmp .ge 35, 3) := dk_162 0 35 (dk_at dksX3_nearestTo_0 13 rfl rfl)
theorem dX3_nearestTo_16 : decode cX3_nearestTo 16 = .ok (.iload_n 3, 1) := dk_29 (dk_at dksX3_nearestTo_0 16 rfl rfl)
theorem dX3_nearestTo_17 : decode cX3_nearestTo 17 = .ok (.iconst (-1), 1) := dk_2 (dk_at dksX3_nearestTo_0 17 rfl rfl)
theorem dX3_nearestTo_18 : decode cX3_nearestTo 18 = .ok (.if_icmp .eq 21, 3) := dk_159 0 21 (dk_at dksX3_nearestTo_0 18 rfl rfl)
theorem dX3_nearestTo_21 : decode cX3_nearestTo 21 = .ok (.aload_n 0, 1) := dk_42 (dk_at dksX3_nearestTo_0 21 rfl rfl)
theorem dX3_nearestTo_22 : decode cX3_nearestTo 22 = .ok (.iload_n 1, 1) := dk_27 (dk_at dksX3_nearestTo_0 22 rfl rfl)
theorem dX3_nearestTo_23 : decode cX3_nearestTo 23 = .ok (.iload_n 2, 1) := dk_28 (dk_at dksX3_nearestTo_0 23 rfl rfl)
theorem dX3_nearestTo_24 : decode cX3_nearestTo 24 = .ok (.iload 4, 2) := dk_21 4 (dk_at dksX3_nearestTo_1 0 rfl rfl)
theorem dX3_nearestTo_26 : decode cX3_nearestTo 26 = .ok (.invokevirtual 85, 3) := dk_182 0 85 (dk_at dksX3_nearestTo_1 2 rfl rfl)
theorem dX3_nearestTo_29 : decode cX3_nearestTo 29 = .ok (.aload_n 0, 1) := dk_42 (dk_at dksX3_nearestTo_1 5 rfl rfl)
theorem dX3_nearestTo_30 : decode cX3_nearestTo 30 = .ok (.iload_n 1, 1) := dk_27 (dk_at dksX3_nearestTo_1 6 rfl rfl)
theorem dX3_nearestTo_31 : decode cX3_nearestTo 31 = .ok (.iload_n 2, 1) := dk_28 (dk_at dksX3_nearestTo_1 7 rfl rfl)
theorem dX3_nearestTo_32 : decode cX3_nearestTo 32 = .ok (.iload_n 3, 1) := dk_29 (dk_at dksX3_nearestTo_1 8 rfl rfl)
theorem dX3_nearestTo_33 : decode cX3_nearestTo 33 = .ok (.invokevirtual 85, 3) := dk_182 0 85 (dk_at dksX3_nearestTo_1 9 rfl rfl)
theorem dX3_nearestTo_36 : decode cX3_nearestTo 36 = .ok (.if_icmp .ge 6, 3) := dk_162 0 6 (dk_at dksX3_nearestTo_1 12 rfl rfl)
theorem dX3_nearestTo_39 : decode cX3_nearestTo 39 = .ok (.iload 4, 2) := dk_21 4 (dk_at dksX3_nearestTo_1 15 rfl rfl)
theorem dX3_nearestTo_41 : decode cX3_nearestTo 41 = .ok (.istore_n 3, 1) := dk_62 (dk_at dksX3_nearestTo_1 17 rfl rfl)
theorem dX3_nearestTo_42 : decode cX3_nearestTo 42 = .ok (.iinc 4 1, 3) := dk_132 4 1 (dk_at dksX3_nearestTo_1 18 rfl rfl)
theorem dX3_nearestTo_45 : decode cX3_nearestTo 45 = .ok (.goto (-40), 3) := dk_167 255 216 (dk_at dksX3_nearestTo_1 21 rfl rfl)
theorem dX3_nearestTo_48 : decode cX3_nearestTo 48 = .ok (.iload_n 3, 1) := dk_29 (dk_at dksX3_nearestTo_2 0 rfl rfl)
theorem dX3_nearestTo_49 : decode cX3_nearestTo 49 = .ok (.ireturn, 1) := dk_172 (dk_at dksX3_nearestTo_2 1 rfl rfl)
abbrev cX3_farTo : ByteArray := prog_14_method_15_code
def yX3_farTo : MethodName := ⟨RX3, "farTo", "(III)I"⟩
def dkwX3_farTo_1 : List UInt8 := [100, 184, 0, 82, 96, 172]
abbrev dktX3_farTo_1 : List UInt8 := dkwX3_farTo_1 ++ []
def dkwX3_farTo_0 : List UInt8 := [27, 42, 180, 0, 7, 16, 81, 29, 96, 46, 100, 184, 0, 82, 28, 42, 180, 0, 7, 16, 87, 29, 96, 46]
abbrev dktX3_farTo_0 : List UInt8 := dkwX3_farTo_0 ++ dktX3_farTo_1
theorem dksX3_farTo_0 : cX3_farTo.data.toList.drop 0 = dktX3_farTo_0 := by decide +kernel
theorem dksX3_farTo_1 : cX3_farTo.data.toList.drop 24 = dktX3_farTo_1 := dk_seg dksX3_farTo_0 24 rfl rfl
theorem dX3_farTo_0 : decode cX3_farTo 0 = .ok (.iload_n 1, 1) := dk_27 (dk_at dksX3_farTo_0 0 rfl rfl)
theorem dX3_farTo_1 : decode cX3_farTo 1 = .ok (.aload_n 0, 1) := dk_42 (dk_at dksX3_farTo_0 1 rfl rfl)
theorem dX3_farTo_2 : decode cX3_farTo 2 = .ok (.getfield 7, 3) := dk_180 0 7 (dk_at dksX3_farTo_0 2 rfl rfl)
theorem dX3_farTo_5 : decode cX3_farTo 5 = .ok (.bipush 81, 2) := dk_16 81 (dk_at dksX3_farTo_0 5 rfl rfl)
theorem dX3_farTo_7 : decode cX3_farTo 7 = .ok (.iload_n 3, 1) := dk_29 (dk_at dksX3_farTo_0 7 rfl rfl)
theorem dX3_farTo_8 : decode cX3_farTo 8 = .ok (.iadd, 1) := dk_96 (dk_at dksX3_farTo_0 8 rfl rfl)
theorem dX3_farTo_9 : decode cX3_farTo 9 = .ok (.iaload, 1) := dk_46 (dk_at dksX3_farTo_0 9 rfl rfl)
theorem dX3_farTo_10 : decode cX3_farTo 10 = .ok (.isub, 1) := dk_100 (dk_at dksX3_farTo_0 10 rfl rfl)
theorem dX3_farTo_11 : decode cX3_farTo 11 = .ok (.invokestatic 82, 3) := dk_184 0 82 (dk_at dksX3_farTo_0 11 rfl rfl)
theorem dX3_farTo_14 : decode cX3_farTo 14 = .ok (.iload_n 2, 1) := dk_28 (dk_at dksX3_farTo_0 14 rfl rfl)
theorem dX3_farTo_15 : decode cX3_farTo 15 = .ok (.aload_n 0, 1) := dk_42 (dk_at dksX3_farTo_0 15 rfl rfl)
theorem dX3_farTo_16 : decode cX3_farTo 16 = .ok (.getfield 7, 3) := dk_180 0 7 (dk_at dksX3_farTo_0 16 rfl rfl)
theorem dX3_farTo_19 : decode cX3_farTo 19 = .ok (.bipush 87, 2) := dk_16 87 (dk_at dksX3_farTo_0 19 rfl rfl)
theorem dX3_farTo_21 : decode cX3_farTo 21 = .ok (.iload_n 3, 1) := dk_29 (dk_at dksX3_farTo_0 21 rfl rfl)
theorem dX3_farTo_22 : decode cX3_farTo 22 = .ok (.iadd, 1) := dk_96 (dk_at dksX3_farTo_0 22 rfl rfl)
theorem dX3_farTo_23 : decode cX3_farTo 23 = .ok (.iaload, 1) := dk_46 (dk_at dksX3_farTo_0 23 rfl rfl)
theorem dX3_farTo_24 : decode cX3_farTo 24 = .ok (.isub, 1) := dk_100 (dk_at dksX3_farTo_1 0 rfl rfl)
theorem dX3_farTo_25 : decode cX3_farTo 25 = .ok (.invokestatic 82, 3) := dk_184 0 82 (dk_at dksX3_farTo_1 1 rfl rfl)
theorem dX3_farTo_28 : decode cX3_farTo 28 = .ok (.iadd, 1) := dk_96 (dk_at dksX3_farTo_1 4 rfl rfl)
theorem dX3_farTo_29 : decode cX3_farTo 29 = .ok (.ireturn, 1) := dk_172 (dk_at dksX3_farTo_1 5 rfl rfl)
abbrev cX3_squared : ByteArray := prog_14_method_14_code
def yX3_squared : MethodName := ⟨RX3, "squared", "(I)I"⟩
def dkwX3_squared_0 : List UInt8 := [26, 26, 104, 172]
abbrev dktX3_squared_0 : List UInt8 := dkwX3_squared_0 ++ []
theorem dksX3_squared_0 : cX3_squared.data.toList.drop 0 = dktX3_squared_0 := by decide +kernel
theorem dX3_squared_0 : decode cX3_squared 0 = .ok (.iload_n 0, 1) := dk_26 (dk_at dksX3_squared_0 0 rfl rfl)
theorem dX3_squared_1 : decode cX3_squared 1 = .ok (.iload_n 0, 1) := dk_26 (dk_at dksX3_squared_0 1 rfl rfl)
theorem dX3_squared_2 : decode cX3_squared 2 = .ok (.imul, 1) := dk_104 (dk_at dksX3_squared_0 2 rfl rfl)
theorem dX3_squared_3 : decode cX3_squared 3 = .ok (.ireturn, 1) := dk_172 (dk_at dksX3_squared_0 3 rfl rfl)
abbrev cX3_done : ByteArray := prog_14_method_9_code
def yX3_done : MethodName := ⟨RX3, "done", "(I)I"⟩
def dkwX3_done_0 : List UInt8 := [42, 27, 181, 0, 62, 3, 172]
abbrev dktX3_done_0 : List UInt8 := dkwX3_done_0 ++ []
theorem dksX3_done_0 : cX3_done.data.toList.drop 0 = dktX3_done_0 := by decide +kernel
theorem dX3_done_0 : decode cX3_done 0 = .ok (.aload_n 0, 1) := dk_42 (dk_at dksX3_done_0 0 rfl rfl)
theorem dX3_done_1 : decode cX3_done 1 = .ok (.iload_n 1, 1) := dk_27 (dk_at dksX3_done_0 1 rfl rfl)
theorem dX3_done_2 : decode cX3_done 2 = .ok (.putfield 62, 3) := dk_181 0 62 (dk_at dksX3_done_0 2 rfl rfl)
theorem dX3_done_5 : decode cX3_done 5 = .ok (.iconst 0, 1) := dk_3 (dk_at dksX3_done_0 5 rfl rfl)
theorem dX3_done_6 : decode cX3_done 6 = .ok (.ireturn, 1) := dk_172 (dk_at dksX3_done_0 6 rfl rfl)
abbrev cX3_ends : ByteArray := prog_14_method_10_code
def yX3_ends : MethodName := ⟨RX3, "ends", "(II)I"⟩
def dkwX3_ends_1 : List UInt8 := [42, 27, 181, 0, 72, 42, 42, 180, 0, 59, 181, 0, 75, 42, 28, 182, 0, 69, 172]
abbrev dktX3_ends_1 : List UInt8 := dkwX3_ends_1 ++ []
def dkwX3_ends_0 : List UInt8 := [27, 154, 0, 12, 42, 42, 180, 0, 62, 182, 0, 65, 172, 27, 156, 0, 10, 42, 27, 116, 182, 0, 69, 172]
abbrev dktX3_ends_0 : List UInt8 := dkwX3_ends_0 ++ dktX3_ends_1
theorem dksX3_ends_0 : cX3_ends.data.toList.drop 0 = dktX3_ends_0 := by decide +kernel
theorem dksX3_ends_1 : cX3_ends.data.toList.drop 24 = dktX3_ends_1 := dk_seg dksX3_ends_0 24 rfl rfl
theorem dX3_ends_0 : decode cX3_ends 0 = .ok (.iload_n 1, 1) := dk_27 (dk_at dksX3_ends_0 0 rfl rfl)
theorem dX3_ends_1 : decode cX3_ends 1 = .ok (.ifCond .ne 12, 3) := dk_154 0 12 (dk_at dksX3_ends_0 1 rfl rfl)
theorem dX3_ends_4 : decode cX3_ends 4 = .ok (.aload_n 0, 1) := dk_42 (dk_at dksX3_ends_0 4 rfl rfl)
theorem dX3_ends_5 : decode cX3_ends 5 = .ok (.aload_n 0, 1) := dk_42 (dk_at dksX3_ends_0 5 rfl rfl)
theorem dX3_ends_6 : decode cX3_ends 6 = .ok (.getfield 62, 3) := dk_180 0 62 (dk_at dksX3_ends_0 6 rfl rfl)
theorem dX3_ends_9 : decode cX3_ends 9 = .ok (.invokevirtual 65, 3) := dk_182 0 65 (dk_at dksX3_ends_0 9 rfl rfl)
theorem dX3_ends_12 : decode cX3_ends 12 = .ok (.ireturn, 1) := dk_172 (dk_at dksX3_ends_0 12 rfl rfl)
theorem dX3_ends_13 : decode cX3_ends 13 = .ok (.iload_n 1, 1) := dk_27 (dk_at dksX3_ends_0 13 rfl rfl)
theorem dX3_ends_14 : decode cX3_ends 14 = .ok (.ifCond .ge 10, 3) := dk_156 0 10 (dk_at dksX3_ends_0 14 rfl rfl)
theorem dX3_ends_17 : decode cX3_ends 17 = .ok (.aload_n 0, 1) := dk_42 (dk_at dksX3_ends_0 17 rfl rfl)
theorem dX3_ends_18 : decode cX3_ends 18 = .ok (.iload_n 1, 1) := dk_27 (dk_at dksX3_ends_0 18 rfl rfl)
theorem dX3_ends_19 : decode cX3_ends 19 = .ok (.ineg, 1) := dk_116 (dk_at dksX3_ends_0 19 rfl rfl)
theorem dX3_ends_20 : decode cX3_ends 20 = .ok (.invokevirtual 69, 3) := dk_182 0 69 (dk_at dksX3_ends_0 20 rfl rfl)
theorem dX3_ends_23 : decode cX3_ends 23 = .ok (.ireturn, 1) := dk_172 (dk_at dksX3_ends_0 23 rfl rfl)
theorem dX3_ends_24 : decode cX3_ends 24 = .ok (.aload_n 0, 1) := dk_42 (dk_at dksX3_ends_1 0 rfl rfl)
theorem dX3_ends_25 : decode cX3_ends 25 = .ok (.iload_n 1, 1) := dk_27 (dk_at dksX3_ends_1 1 rfl rfl)
theorem dX3_ends_26 : decode cX3_ends 26 = .ok (.putfield 72, 3) := dk_181 0 72 (dk_at dksX3_ends_1 2 rfl rfl)
theorem dX3_ends_29 : decode cX3_ends 29 = .ok (.aload_n 0, 1) := dk_42 (dk_at dksX3_ends_1 5 rfl rfl)
theorem dX3_ends_30 : decode cX3_ends 30 = .ok (.aload_n 0, 1) := dk_42 (dk_at dksX3_ends_1 6 rfl rfl)
theorem dX3_ends_31 : decode cX3_ends 31 = .ok (.getfield 59, 3) := dk_180 0 59 (dk_at dksX3_ends_1 7 rfl rfl)
theorem dX3_ends_34 : decode cX3_ends 34 = .ok (.putfield 75, 3) := dk_181 0 75 (dk_at dksX3_ends_1 10 rfl rfl)
theorem dX3_ends_37 : decode cX3_ends 37 = .ok (.aload_n 0, 1) := dk_42 (dk_at dksX3_ends_1 13 rfl rfl)
theorem dX3_ends_38 : decode cX3_ends 38 = .ok (.iload_n 2, 1) := dk_28 (dk_at dksX3_ends_1 14 rfl rfl)
theorem dX3_ends_39 : decode cX3_ends 39 = .ok (.invokevirtual 69, 3) := dk_182 0 69 (dk_at dksX3_ends_1 15 rfl rfl)
theorem dX3_ends_42 : decode cX3_ends 42 = .ok (.ireturn, 1) := dk_172 (dk_at dksX3_ends_1 18 rfl rfl)
abbrev cX3_changed : ByteArray := prog_14_method_7_code
def yX3_changed : MethodName := ⟨RX3, "changed", "(I)I"⟩
def dkwX3_changed_3 : List UInt8 := [104, 28, 96, 42, 180, 0, 13, 28, 46, 79, 132, 2, 1, 167, 255, 225, 27, 172]
abbrev dktX3_changed_3 : List UInt8 := dkwX3_changed_3 ++ []
def dkwX3_changed_2 : List UInt8 := [96, 181, 0, 56, 3, 61, 28, 16, 93, 162, 0, 31, 42, 180, 0, 19, 16, 93, 42, 180, 0, 56, 4, 100]
abbrev dktX3_changed_2 : List UInt8 := dkwX3_changed_2 ++ dktX3_changed_3
def dkwX3_changed_1 : List UInt8 := [180, 0, 19, 28, 16, 93, 96, 46, 79, 132, 2, 1, 167, 255, 231, 167, 0, 13, 42, 89, 180, 0, 56, 4]
abbrev dktX3_changed_1 : List UInt8 := dkwX3_changed_1 ++ dktX3_changed_2
def dkwX3_changed_0 : List UInt8 := [42, 180, 0, 56, 16, 8, 160, 0, 36, 3, 61, 28, 17, 2, 139, 162, 0, 24, 42, 180, 0, 19, 28, 42]
abbrev dktX3_changed_0 : List UInt8 := dkwX3_changed_0 ++ dktX3_changed_1
theorem dksX3_changed_0 : cX3_changed.data.toList.drop 0 = dktX3_changed_0 := by decide +kernel
theorem dksX3_changed_1 : cX3_changed.data.toList.drop 24 = dktX3_changed_1 := dk_seg dksX3_changed_0 24 rfl rfl
theorem dksX3_changed_2 : cX3_changed.data.toList.drop 48 = dktX3_changed_2 := dk_seg dksX3_changed_1 24 rfl rfl
theorem dksX3_changed_3 : cX3_changed.data.toList.drop 72 = dktX3_changed_3 := dk_seg dksX3_changed_2 24 rfl rfl
theorem dX3_changed_0 : decode cX3_changed 0 = .ok (.aload_n 0, 1) := dk_42 (dk_at dksX3_changed_0 0 rfl rfl)
theorem dX3_changed_1 : decode cX3_changed 1 = .ok (.getfield 56, 3) := dk_180 0 56 (dk_at dksX3_changed_0 1 rfl rfl)
theorem dX3_changed_4 : decode cX3_changed 4 = .ok (.bipush 8, 2) := dk_16 8 (dk_at dksX3_changed_0 4 rfl rfl)
theorem dX3_changed_6 : decode cX3_changed 6 = .ok (.if_icmp .ne 36, 3) := dk_160 0 36 (dk_at dksX3_changed_0 6 rfl rfl)
theorem dX3_changed_9 : decode cX3_changed 9 = .ok (.iconst 0, 1) := dk_3 (dk_at dksX3_changed_0 9 rfl rfl)
theorem dX3_changed_10 : decode cX3_changed 10 = .ok (.istore_n 2, 1) := dk_61 (dk_at dksX3_changed_0 10 rfl rfl)
theorem dX3_changed_11 : decode cX3_changed 11 = .ok (.iload_n 2, 1) := dk_28 (dk_at dksX3_changed_0 11 rfl rfl)
theorem dX3_changed_12 : decode cX3_changed 12 = .ok (.sipush 651, 3) := dk_17 2 139 (dk_at dksX3_changed_0 12 rfl rfl)
theorem dX3_changed_15 : decode cX3_changed 15 = .ok (.if_icmp .ge 24, 3) := dk_162 0 24 (dk_at dksX3_changed_0 15 rfl rfl)
theorem dX3_changed_18 : decode cX3_changed 18 = .ok (.aload_n 0, 1) := dk_42 (dk_at dksX3_changed_0 18 rfl rfl)
theorem dX3_changed_19 : decode cX3_changed 19 = .ok (.getfield 19, 3) := dk_180 0 19 (dk_at dksX3_changed_0 19 rfl rfl)
theorem dX3_changed_22 : decode cX3_changed 22 = .ok (.iload_n 2, 1) := dk_28 (dk_at dksX3_changed_0 22 rfl rfl)
theorem dX3_changed_23 : decode cX3_changed 23 = .ok (.aload_n 0, 1) := dk_42 (dk_at dksX3_changed_0 23 rfl rfl)
theorem dX3_changed_24 : decode cX3_changed 24 = .ok (.getfield 19, 3) := dk_180 0 19 (dk_at dksX3_changed_1 0 rfl rfl)
theorem dX3_changed_27 : decode cX3_changed 27 = .ok (.iload_n 2, 1) := dk_28 (dk_at dksX3_changed_1 3 rfl rfl)
theorem dX3_changed_28 : decode cX3_changed 28 = .ok (.bipush 93, 2) := dk_16 93 (dk_at dksX3_changed_1 4 rfl rfl)
theorem dX3_changed_30 : decode cX3_changed 30 = .ok (.iadd, 1) := dk_96 (dk_at dksX3_changed_1 6 rfl rfl)
theorem dX3_changed_31 : decode cX3_changed 31 = .ok (.iaload, 1) := dk_46 (dk_at dksX3_changed_1 7 rfl rfl)
theorem dX3_changed_32 : decode cX3_changed 32 = .ok (.iastore, 1) := dk_79 (dk_at dksX3_changed_1 8 rfl rfl)
theorem dX3_changed_33 : decode cX3_changed 33 = .ok (.iinc 2 1, 3) := dk_132 2 1 (dk_at dksX3_changed_1 9 rfl rfl)
theorem dX3_changed_36 : decode cX3_changed 36 = .ok (.goto (-25), 3) := dk_167 255 231 (dk_at dksX3_changed_1 12 rfl rfl)
theorem dX3_changed_39 : decode cX3_changed 39 = .ok (.goto 13, 3) := dk_167 0 13 (dk_at dksX3_changed_1 15 rfl rfl)
theorem dX3_changed_42 : decode cX3_changed 42 = .ok (.aload_n 0, 1) := dk_42 (dk_at dksX3_changed_1 18 rfl rfl)
theorem dX3_changed_43 : decode cX3_changed 43 = .ok (.dup, 1) := dk_89 (dk_at dksX3_changed_1 19 rfl rfl)
theorem dX3_changed_44 : decode cX3_changed 44 = .ok (.getfield 56, 3) := dk_180 0 56 (dk_at dksX3_changed_1 20 rfl rfl)
theorem dX3_changed_47 : decode cX3_changed 47 = .ok (.iconst 1, 1) := dk_4 (dk_at dksX3_changed_1 23 rfl rfl)
theorem dX3_changed_48 : decode cX3_changed 48 = .ok (.iadd, 1) := dk_96 (dk_at dksX3_changed_2 0 rfl rfl)
theorem dX3_changed_49 : decode cX3_changed 49 = .ok (.putfield 56, 3) := dk_181 0 56 (dk_at dksX3_changed_2 1 rfl rfl)
theorem dX3_changed_52 : decode cX3_changed 52 = .ok (.iconst 0, 1) := dk_3 (dk_at dksX3_changed_2 4 rfl rfl)
theorem dX3_changed_53 : decode cX3_changed 53 = .ok (.istore_n 2, 1) := dk_61 (dk_at dksX3_changed_2 5 rfl rfl)
theorem dX3_changed_54 : decode cX3_changed 54 = .ok (.iload_n 2, 1) := dk_28 (dk_at dksX3_changed_2 6 rfl rfl)
theorem dX3_changed_55 : decode cX3_changed 55 = .ok (.bipush 93, 2) := dk_16 93 (dk_at dksX3_changed_2 7 rfl rfl)
theorem dX3_changed_57 : decode cX3_changed 57 = .ok (.if_icmp .ge 31, 3) := dk_162 0 31 (dk_at dksX3_changed_2 9 rfl rfl)
theorem dX3_changed_60 : decode cX3_changed 60 = .ok (.aload_n 0, 1) := dk_42 (dk_at dksX3_changed_2 12 rfl rfl)
theorem dX3_changed_61 : decode cX3_changed 61 = .ok (.getfield 19, 3) := dk_180 0 19 (dk_at dksX3_changed_2 13 rfl rfl)
theorem dX3_changed_64 : decode cX3_changed 64 = .ok (.bipush 93, 2) := dk_16 93 (dk_at dksX3_changed_2 16 rfl rfl)
theorem dX3_changed_66 : decode cX3_changed 66 = .ok (.aload_n 0, 1) := dk_42 (dk_at dksX3_changed_2 18 rfl rfl)
theorem dX3_changed_67 : decode cX3_changed 67 = .ok (.getfield 56, 3) := dk_180 0 56 (dk_at dksX3_changed_2 19 rfl rfl)
theorem dX3_changed_70 : decode cX3_changed 70 = .ok (.iconst 1, 1) := dk_4 (dk_at dksX3_changed_2 22 rfl rfl)
theorem dX3_changed_71 : decode cX3_changed 71 = .ok (.isub, 1) := dk_100 (dk_at dksX3_changed_2 23 rfl rfl)
theorem dX3_changed_72 : decode cX3_changed 72 = .ok (.imul, 1) := dk_104 (dk_at dksX3_changed_3 0 rfl rfl)
theorem dX3_changed_73 : decode cX3_changed 73 = .ok (.iload_n 2, 1) := dk_28 (dk_at dksX3_changed_3 1 rfl rfl)
theorem dX3_changed_74 : decode cX3_changed 74 = .ok (.iadd, 1) := dk_96 (dk_at dksX3_changed_3 2 rfl rfl)
theorem dX3_changed_75 : decode cX3_changed 75 = .ok (.aload_n 0, 1) := dk_42 (dk_at dksX3_changed_3 3 rfl rfl)
theorem dX3_changed_76 : decode cX3_changed 76 = .ok (.getfield 13, 3) := dk_180 0 13 (dk_at dksX3_changed_3 4 rfl rfl)
theorem dX3_changed_79 : decode cX3_changed 79 = .ok (.iload_n 2, 1) := dk_28 (dk_at dksX3_changed_3 7 rfl rfl)
theorem dX3_changed_80 : decode cX3_changed 80 = .ok (.iaload, 1) := dk_46 (dk_at dksX3_changed_3 8 rfl rfl)
theorem dX3_changed_81 : decode cX3_changed 81 = .ok (.iastore, 1) := dk_79 (dk_at dksX3_changed_3 9 rfl rfl)
theorem dX3_changed_82 : decode cX3_changed 82 = .ok (.iinc 2 1, 3) := dk_132 2 1 (dk_at dksX3_changed_3 10 rfl rfl)
theorem dX3_changed_85 : decode cX3_changed 85 = .ok (.goto (-31), 3) := dk_167 255 225 (dk_at dksX3_changed_3 13 rfl rfl)
theorem dX3_changed_88 : decode cX3_changed 88 = .ok (.iload_n 1, 1) := dk_27 (dk_at dksX3_changed_3 16 rfl rfl)
theorem dX3_changed_89 : decode cX3_changed 89 = .ok (.ireturn, 1) := dk_172 (dk_at dksX3_changed_3 17 rfl rfl)
abbrev cX3_fails : ByteArray := prog_14_method_3_code
def yX3_fails : MethodName := ⟨RX3, "fails", "(I)I"⟩
def dkwX3_fails_0 : List UInt8 := [42, 27, 181, 0, 53, 3, 172]
abbrev dktX3_fails_0 : List UInt8 := dkwX3_fails_0 ++ []
theorem dksX3_fails_0 : cX3_fails.data.toList.drop 0 = dktX3_fails_0 := by decide +kernel
theorem dX3_fails_0 : decode cX3_fails 0 = .ok (.aload_n 0, 1) := dk_42 (dk_at dksX3_fails_0 0 rfl rfl)
theorem dX3_fails_1 : decode cX3_fails 1 = .ok (.iload_n 1, 1) := dk_27 (dk_at dksX3_fails_0 1 rfl rfl)
theorem dX3_fails_2 : decode cX3_fails 2 = .ok (.putfield 53, 3) := dk_181 0 53 (dk_at dksX3_fails_0 2 rfl rfl)
theorem dX3_fails_5 : decode cX3_fails 5 = .ok (.iconst 0, 1) := dk_3 (dk_at dksX3_fails_0 5 rfl rfl)
theorem dX3_fails_6 : decode cX3_fails 6 = .ok (.ireturn, 1) := dk_172 (dk_at dksX3_fails_0 6 rfl rfl)
abbrev cX3_hut : ByteArray := prog_14_method_45_code
def yX3_hut : MethodName := ⟨RX3, "hut", "(II)I"⟩
def dkwX3_hut_0 : List UInt8 := [42, 182, 0, 149, 42, 42, 27, 28, 182, 0, 158, 5, 182, 0, 155, 172]
abbrev dktX3_hut_0 : List UInt8 := dkwX3_hut_0 ++ []
theorem dksX3_hut_0 : cX3_hut.data.toList.drop 0 = dktX3_hut_0 := by decide +kernel
theorem dX3_hut_0 : decode cX3_hut 0 = .ok (.aload_n 0, 1) := dk_42 (dk_at dksX3_hut_0 0 rfl rfl)
theorem dX3_hut_1 : decode cX3_hut 1 = .ok (.invokevirtual 149, 3) := dk_182 0 149 (dk_at dksX3_hut_0 1 rfl rfl)
theorem dX3_hut_4 : decode cX3_hut 4 = .ok (.aload_n 0, 1) := dk_42 (dk_at dksX3_hut_0 4 rfl rfl)
theorem dX3_hut_5 : decode cX3_hut 5 = .ok (.aload_n 0, 1) := dk_42 (dk_at dksX3_hut_0 5 rfl rfl)
theorem dX3_hut_6 : decode cX3_hut 6 = .ok (.iload_n 1, 1) := dk_27 (dk_at dksX3_hut_0 6 rfl rfl)
theorem dX3_hut_7 : decode cX3_hut 7 = .ok (.iload_n 2, 1) := dk_28 (dk_at dksX3_hut_0 7 rfl rfl)
theorem dX3_hut_8 : decode cX3_hut 8 = .ok (.invokevirtual 158, 3) := dk_182 0 158 (dk_at dksX3_hut_0 8 rfl rfl)
theorem dX3_hut_11 : decode cX3_hut 11 = .ok (.iconst 2, 1) := dk_5 (dk_at dksX3_hut_0 11 rfl rfl)
theorem dX3_hut_12 : decode cX3_hut 12 = .ok (.invokevirtual 155, 3) := dk_182 0 155 (dk_at dksX3_hut_0 12 rfl rfl)
theorem dX3_hut_15 : decode cX3_hut 15 = .ok (.ireturn, 1) := dk_172 (dk_at dksX3_hut_0 15 rfl rfl)
abbrev cX3_sets : ByteArray := prog_14_method_34_code
def yX3_sets : MethodName := ⟨RX3, "sets", "(II)I"⟩
def dkwX3_sets_3 : List UInt8 := [28, 79, 42, 180, 0, 7, 4, 29, 4, 96, 79, 42, 29, 182, 0, 133, 172]
abbrev dktX3_sets_3 : List UInt8 := dkwX3_sets_3 ++ []
def dkwX3_sets_2 : List UInt8 := [16, 6, 182, 0, 130, 172, 42, 180, 0, 7, 16, 81, 29, 96, 27, 79, 42, 180, 0, 7, 16, 87, 29, 96]
abbrev dktX3_sets_2 : List UInt8 := dkwX3_sets_2 ++ dktX3_sets_3
def dkwX3_sets_1 : List UInt8 := [28, 182, 0, 136, 182, 0, 130, 172, 42, 180, 0, 7, 4, 46, 62, 29, 16, 6, 160, 0, 11, 42, 4]
abbrev dktX3_sets_1 : List UInt8 := dkwX3_sets_1 ++ dktX3_sets_2
def dkwX3_sets_0 : List UInt8 := [27, 28, 184, 0, 126, 154, 0, 5, 2, 172, 42, 27, 28, 182, 0, 136, 2, 159, 0, 15, 42, 5, 42, 27]
abbrev dktX3_sets_0 : List UInt8 := dkwX3_sets_0 ++ dktX3_sets_1
theorem dksX3_sets_0 : cX3_sets.data.toList.drop 0 = dktX3_sets_0 := by decide +kernel
theorem dksX3_sets_1 : cX3_sets.data.toList.drop 24 = dktX3_sets_1 := dk_seg dksX3_sets_0 24 rfl rfl
theorem dksX3_sets_2 : cX3_sets.data.toList.drop 47 = dktX3_sets_2 := dk_seg dksX3_sets_1 23 rfl rfl
theorem dksX3_sets_3 : cX3_sets.data.toList.drop 71 = dktX3_sets_3 := dk_seg dksX3_sets_2 24 rfl rfl
theorem dX3_sets_0 : decode cX3_sets 0 = .ok (.iload_n 1, 1) := dk_27 (dk_at dksX3_sets_0 0 rfl rfl)
theorem dX3_sets_1 : decode cX3_sets 1 = .ok (.iload_n 2, 1) := dk_28 (dk_at dksX3_sets_0 1 rfl rfl)
theorem dX3_sets_2 : decode cX3_sets 2 = .ok (.invokestatic 126, 3) := dk_184 0 126 (dk_at dksX3_sets_0 2 rfl rfl)
theorem dX3_sets_5 : decode cX3_sets 5 = .ok (.ifCond .ne 5, 3) := dk_154 0 5 (dk_at dksX3_sets_0 5 rfl rfl)
theorem dX3_sets_8 : decode cX3_sets 8 = .ok (.iconst (-1), 1) := dk_2 (dk_at dksX3_sets_0 8 rfl rfl)
theorem dX3_sets_9 : decode cX3_sets 9 = .ok (.ireturn, 1) := dk_172 (dk_at dksX3_sets_0 9 rfl rfl)
theorem dX3_sets_10 : decode cX3_sets 10 = .ok (.aload_n 0, 1) := dk_42 (dk_at dksX3_sets_0 10 rfl rfl)
theorem dX3_sets_11 : decode cX3_sets 11 = .ok (.iload_n 1, 1) := dk_27 (dk_at dksX3_sets_0 11 rfl rfl)
theorem dX3_sets_12 : decode cX3_sets 12 = .ok (.iload_n 2, 1) := dk_28 (dk_at dksX3_sets_0 12 rfl rfl)
theorem dX3_sets_13 : decode cX3_sets 13 = .ok (.invokevirtual 136, 3) := dk_182 0 136 (dk_at dksX3_sets_0 13 rfl rfl)
theorem dX3_sets_16 : decode cX3_sets 16 = .ok (.iconst (-1), 1) := dk_2 (dk_at dksX3_sets_0 16 rfl rfl)
theorem dX3_sets_17 : decode cX3_sets 17 = .ok (.if_icmp .eq 15, 3) := dk_159 0 15 (dk_at dksX3_sets_0 17 rfl rfl)
theorem dX3_sets_20 : decode cX3_sets 20 = .ok (.aload_n 0, 1) := dk_42 (dk_at dksX3_sets_0 20 rfl rfl)
theorem dX3_sets_21 : decode cX3_sets 21 = .ok (.iconst 2, 1) := dk_5 (dk_at dksX3_sets_0 21 rfl rfl)
theorem dX3_sets_22 : decode cX3_sets 22 = .ok (.aload_n 0, 1) := dk_42 (dk_at dksX3_sets_0 22 rfl rfl)
theorem dX3_sets_23 : decode cX3_sets 23 = .ok (.iload_n 1, 1) := dk_27 (dk_at dksX3_sets_0 23 rfl rfl)
theorem dX3_sets_24 : decode cX3_sets 24 = .ok (.iload_n 2, 1) := dk_28 (dk_at dksX3_sets_1 0 rfl rfl)
theorem dX3_sets_25 : decode cX3_sets 25 = .ok (.invokevirtual 136, 3) := dk_182 0 136 (dk_at dksX3_sets_1 1 rfl rfl)
theorem dX3_sets_28 : decode cX3_sets 28 = .ok (.invokevirtual 130, 3) := dk_182 0 130 (dk_at dksX3_sets_1 4 rfl rfl)
theorem dX3_sets_31 : decode cX3_sets 31 = .ok (.ireturn, 1) := dk_172 (dk_at dksX3_sets_1 7 rfl rfl)
theorem dX3_sets_32 : decode cX3_sets 32 = .ok (.aload_n 0, 1) := dk_42 (dk_at dksX3_sets_1 8 rfl rfl)
theorem dX3_sets_33 : decode cX3_sets 33 = .ok (.getfield 7, 3) := dk_180 0 7 (dk_at dksX3_sets_1 9 rfl rfl)
theorem dX3_sets_36 : decode cX3_sets 36 = .ok (.iconst 1, 1) := dk_4 (dk_at dksX3_sets_1 12 rfl rfl)
theorem dX3_sets_37 : decode cX3_sets 37 = .ok (.iaload, 1) := dk_46 (dk_at dksX3_sets_1 13 rfl rfl)
theorem dX3_sets_38 : decode cX3_sets 38 = .ok (.istore_n 3, 1) := dk_62 (dk_at dksX3_sets_1 14 rfl rfl)
theorem dX3_sets_39 : decode cX3_sets 39 = .ok (.iload_n 3, 1) := dk_29 (dk_at dksX3_sets_1 15 rfl rfl)
theorem dX3_sets_40 : decode cX3_sets 40 = .ok (.bipush 6, 2) := dk_16 6 (dk_at dksX3_sets_1 16 rfl rfl)
theorem dX3_sets_42 : decode cX3_sets 42 = .ok (.if_icmp .ne 11, 3) := dk_160 0 11 (dk_at dksX3_sets_1 18 rfl rfl)
theorem dX3_sets_45 : decode cX3_sets 45 = .ok (.aload_n 0, 1) := dk_42 (dk_at dksX3_sets_1 21 rfl rfl)
theorem dX3_sets_46 : decode cX3_sets 46 = .ok (.iconst 1, 1) := dk_4 (dk_at dksX3_sets_1 22 rfl rfl)
theorem dX3_sets_47 : decode cX3_sets 47 = .ok (.bipush 6, 2) := dk_16 6 (dk_at dksX3_sets_2 0 rfl rfl)
theorem dX3_sets_49 : decode cX3_sets 49 = .ok (.invokevirtual 130, 3) := dk_182 0 130 (dk_at dksX3_sets_2 2 rfl rfl)
theorem dX3_sets_52 : decode cX3_sets 52 = .ok (.ireturn, 1) := dk_172 (dk_at dksX3_sets_2 5 rfl rfl)
theorem dX3_sets_53 : decode cX3_sets 53 = .ok (.aload_n 0, 1) := dk_42 (dk_at dksX3_sets_2 6 rfl rfl)
theorem dX3_sets_54 : decode cX3_sets 54 = .ok (.getfield 7, 3) := dk_180 0 7 (dk_at dksX3_sets_2 7 rfl rfl)
theorem dX3_sets_57 : decode cX3_sets 57 = .ok (.bipush 81, 2) := dk_16 81 (dk_at dksX3_sets_2 10 rfl rfl)
theorem dX3_sets_59 : decode cX3_sets 59 = .ok (.iload_n 3, 1) := dk_29 (dk_at dksX3_sets_2 12 rfl rfl)
theorem dX3_sets_60 : decode cX3_sets 60 = .ok (.iadd, 1) := dk_96 (dk_at dksX3_sets_2 13 rfl rfl)
theorem dX3_sets_61 : decode cX3_sets 61 = .ok (.iload_n 1, 1) := dk_27 (dk_at dksX3_sets_2 14 rfl rfl)
theorem dX3_sets_62 : decode cX3_sets 62 = .ok (.iastore, 1) := dk_79 (dk_at dksX3_sets_2 15 rfl rfl)
theorem dX3_sets_63 : decode cX3_sets 63 = .ok (.aload_n 0, 1) := dk_42 (dk_at dksX3_sets_2 16 rfl rfl)
theorem dX3_sets_64 : decode cX3_sets 64 = .ok (.getfield 7, 3) := dk_180 0 7 (dk_at dksX3_sets_2 17 rfl rfl)
theorem dX3_sets_67 : decode cX3_sets 67 = .ok (.bipush 87, 2) := dk_16 87 (dk_at dksX3_sets_2 20 rfl rfl)
theorem dX3_sets_69 : decode cX3_sets 69 = .ok (.iload_n 3, 1) := dk_29 (dk_at dksX3_sets_2 22 rfl rfl)
theorem dX3_sets_70 : decode cX3_sets 70 = .ok (.iadd, 1) := dk_96 (dk_at dksX3_sets_2 23 rfl rfl)
theorem dX3_sets_71 : decode cX3_sets 71 = .ok (.iload_n 2, 1) := dk_28 (dk_at dksX3_sets_3 0 rfl rfl)
theorem dX3_sets_72 : decode cX3_sets 72 = .ok (.iastore, 1) := dk_79 (dk_at dksX3_sets_3 1 rfl rfl)
theorem dX3_sets_73 : decode cX3_sets 73 = .ok (.aload_n 0, 1) := dk_42 (dk_at dksX3_sets_3 2 rfl rfl)
theorem dX3_sets_74 : decode cX3_sets 74 = .ok (.getfield 7, 3) := dk_180 0 7 (dk_at dksX3_sets_3 3 rfl rfl)
theorem dX3_sets_77 : decode cX3_sets 77 = .ok (.iconst 1, 1) := dk_4 (dk_at dksX3_sets_3 6 rfl rfl)
theorem dX3_sets_78 : decode cX3_sets 78 = .ok (.iload_n 3, 1) := dk_29 (dk_at dksX3_sets_3 7 rfl rfl)
theorem dX3_sets_79 : decode cX3_sets 79 = .ok (.iconst 1, 1) := dk_4 (dk_at dksX3_sets_3 8 rfl rfl)
theorem dX3_sets_80 : decode cX3_sets 80 = .ok (.iadd, 1) := dk_96 (dk_at dksX3_sets_3 9 rfl rfl)
theorem dX3_sets_81 : decode cX3_sets 81 = .ok (.iastore, 1) := dk_79 (dk_at dksX3_sets_3 10 rfl rfl)
theorem dX3_sets_82 : decode cX3_sets 82 = .ok (.aload_n 0, 1) := dk_42 (dk_at dksX3_sets_3 11 rfl rfl)
theorem dX3_sets_83 : decode cX3_sets 83 = .ok (.iload_n 3, 1) := dk_29 (dk_at dksX3_sets_3 12 rfl rfl)
theorem dX3_sets_84 : decode cX3_sets 84 = .ok (.invokevirtual 133, 3) := dk_182 0 133 (dk_at dksX3_sets_3 13 rfl rfl)
theorem dX3_sets_87 : decode cX3_sets 87 = .ok (.ireturn, 1) := dk_172 (dk_at dksX3_sets_3 16 rfl rfl)
abbrev cX3_hutAt : ByteArray := prog_14_method_33_code
def yX3_hutAt : MethodName := ⟨RX3, "hutAt", "(II)I"⟩
def dkwX3_hutAt_2 : List UInt8 := [2, 172]
abbrev dktX3_hutAt_2 : List UInt8 := dkwX3_hutAt_2 ++ []
def dkwX3_hutAt_1 : List UInt8 := [160, 0, 18, 42, 180, 0, 7, 16, 87, 29, 96, 46, 28, 160, 0, 5, 29, 172, 132, 3, 1, 167, 255, 215]
abbrev dktX3_hutAt_1 : List UInt8 := dkwX3_hutAt_1 ++ dktX3_hutAt_2
def dkwX3_hutAt_0 : List UInt8 := [3, 62, 29, 42, 180, 0, 7, 4, 46, 162, 0, 37, 42, 180, 0, 7, 16, 81, 29, 96, 46, 27]
abbrev dktX3_hutAt_0 : List UInt8 := dkwX3_hutAt_0 ++ dktX3_hutAt_1
theorem dksX3_hutAt_0 : cX3_hutAt.data.toList.drop 0 = dktX3_hutAt_0 := by decide +kernel
theorem dksX3_hutAt_1 : cX3_hutAt.data.toList.drop 22 = dktX3_hutAt_1 := dk_seg dksX3_hutAt_0 22 rfl rfl
theorem dksX3_hutAt_2 : cX3_hutAt.data.toList.drop 46 = dktX3_hutAt_2 := dk_seg dksX3_hutAt_1 24 rfl rfl
theorem dX3_hutAt_0 : decode cX3_hutAt 0 = .ok (.iconst 0, 1) := dk_3 (dk_at dksX3_hutAt_0 0 rfl rfl)
theorem dX3_hutAt_1 : decode cX3_hutAt 1 = .ok (.istore_n 3, 1) := dk_62 (dk_at dksX3_hutAt_0 1 rfl rfl)
theorem dX3_hutAt_2 : decode cX3_hutAt 2 = .ok (.iload_n 3, 1) := dk_29 (dk_at dksX3_hutAt_0 2 rfl rfl)
theorem dX3_hutAt_3 : decode cX3_hutAt 3 = .ok (.aload_n 0, 1) := dk_42 (dk_at dksX3_hutAt_0 3 rfl rfl)
theorem dX3_hutAt_4 : decode cX3_hutAt 4 = .ok (.getfield 7, 3) := dk_180 0 7 (dk_at dksX3_hutAt_0 4 rfl rfl)
theorem dX3_hutAt_7 : decode cX3_hutAt 7 = .ok (.iconst 1, 1) := dk_4 (dk_at dksX3_hutAt_0 7 rfl rfl)
theorem dX3_hutAt_8 : decode cX3_hutAt 8 = .ok (.iaload, 1) := dk_46 (dk_at dksX3_hutAt_0 8 rfl rfl)
theorem dX3_hutAt_9 : decode cX3_hutAt 9 = .ok (.if_icmp .ge 37, 3) := dk_162 0 37 (dk_at dksX3_hutAt_0 9 rfl rfl)
theorem dX3_hutAt_12 : decode cX3_hutAt 12 = .ok (.aload_n 0, 1) := dk_42 (dk_at dksX3_hutAt_0 12 rfl rfl)
theorem dX3_hutAt_13 : decode cX3_hutAt 13 = .ok (.getfield 7, 3) := dk_180 0 7 (dk_at dksX3_hutAt_0 13 rfl rfl)
theorem dX3_hutAt_16 : decode cX3_hutAt 16 = .ok (.bipush 81, 2) := dk_16 81 (dk_at dksX3_hutAt_0 16 rfl rfl)
theorem dX3_hutAt_18 : decode cX3_hutAt 18 = .ok (.iload_n 3, 1) := dk_29 (dk_at dksX3_hutAt_0 18 rfl rfl)
theorem dX3_hutAt_19 : decode cX3_hutAt 19 = .ok (.iadd, 1) := dk_96 (dk_at dksX3_hutAt_0 19 rfl rfl)
theorem dX3_hutAt_20 : decode cX3_hutAt 20 = .ok (.iaload, 1) := dk_46 (dk_at dksX3_hutAt_0 20 rfl rfl)
theorem dX3_hutAt_21 : decode cX3_hutAt 21 = .ok (.iload_n 1, 1) := dk_27 (dk_at dksX3_hutAt_0 21 rfl rfl)
theorem dX3_hutAt_22 : decode cX3_hutAt 22 = .ok (.if_icmp .ne 18, 3) := dk_160 0 18 (dk_at dksX3_hutAt_1 0 rfl rfl)
theorem dX3_hutAt_25 : decode cX3_hutAt 25 = .ok (.aload_n 0, 1) := dk_42 (dk_at dksX3_hutAt_1 3 rfl rfl)
theorem dX3_hutAt_26 : decode cX3_hutAt 26 = .ok (.getfield 7, 3) := dk_180 0 7 (dk_at dksX3_hutAt_1 4 rfl rfl)
theorem dX3_hutAt_29 : decode cX3_hutAt 29 = .ok (.bipush 87, 2) := dk_16 87 (dk_at dksX3_hutAt_1 7 rfl rfl)
theorem dX3_hutAt_31 : decode cX3_hutAt 31 = .ok (.iload_n 3, 1) := dk_29 (dk_at dksX3_hutAt_1 9 rfl rfl)
theorem dX3_hutAt_32 : decode cX3_hutAt 32 = .ok (.iadd, 1) := dk_96 (dk_at dksX3_hutAt_1 10 rfl rfl)
theorem dX3_hutAt_33 : decode cX3_hutAt 33 = .ok (.iaload, 1) := dk_46 (dk_at dksX3_hutAt_1 11 rfl rfl)
theorem dX3_hutAt_34 : decode cX3_hutAt 34 = .ok (.iload_n 2, 1) := dk_28 (dk_at dksX3_hutAt_1 12 rfl rfl)
theorem dX3_hutAt_35 : decode cX3_hutAt 35 = .ok (.if_icmp .ne 5, 3) := dk_160 0 5 (dk_at dksX3_hutAt_1 13 rfl rfl)
theorem dX3_hutAt_38 : decode cX3_hutAt 38 = .ok (.iload_n 3, 1) := dk_29 (dk_at dksX3_hutAt_1 16 rfl rfl)
theorem dX3_hutAt_39 : decode cX3_hutAt 39 = .ok (.ireturn, 1) := dk_172 (dk_at dksX3_hutAt_1 17 rfl rfl)
theorem dX3_hutAt_40 : decode cX3_hutAt 40 = .ok (.iinc 3 1, 3) := dk_132 3 1 (dk_at dksX3_hutAt_1 18 rfl rfl)
theorem dX3_hutAt_43 : decode cX3_hutAt 43 = .ok (.goto (-41), 3) := dk_167 255 215 (dk_at dksX3_hutAt_1 21 rfl rfl)
theorem dX3_hutAt_46 : decode cX3_hutAt 46 = .ok (.iconst (-1), 1) := dk_2 (dk_at dksX3_hutAt_2 0 rfl rfl)
theorem dX3_hutAt_47 : decode cX3_hutAt 47 = .ok (.ireturn, 1) := dk_172 (dk_at dksX3_hutAt_2 1 rfl rfl)
abbrev cX3_leave : ByteArray := prog_14_method_46_code
def yX3_leave : MethodName := ⟨RX3, "leave", "(I)I"⟩
def dkwX3_leave_0 : List UInt8 := [42, 182, 0, 149, 42, 42, 27, 182, 0, 161, 4, 182, 0, 155, 172]
abbrev dktX3_leave_0 : List UInt8 := dkwX3_leave_0 ++ []
theorem dksX3_leave_0 : cX3_leave.data.toList.drop 0 = dktX3_leave_0 := by decide +kernel
theorem dX3_leave_0 : decode cX3_leave 0 = .ok (.aload_n 0, 1) := dk_42 (dk_at dksX3_leave_0 0 rfl rfl)
theorem dX3_leave_1 : decode cX3_leave 1 = .ok (.invokevirtual 149, 3) := dk_182 0 149 (dk_at dksX3_leave_0 1 rfl rfl)
theorem dX3_leave_4 : decode cX3_leave 4 = .ok (.aload_n 0, 1) := dk_42 (dk_at dksX3_leave_0 4 rfl rfl)
theorem dX3_leave_5 : decode cX3_leave 5 = .ok (.aload_n 0, 1) := dk_42 (dk_at dksX3_leave_0 5 rfl rfl)
theorem dX3_leave_6 : decode cX3_leave 6 = .ok (.iload_n 1, 1) := dk_27 (dk_at dksX3_leave_0 6 rfl rfl)
theorem dX3_leave_7 : decode cX3_leave 7 = .ok (.invokevirtual 161, 3) := dk_182 0 161 (dk_at dksX3_leave_0 7 rfl rfl)
theorem dX3_leave_10 : decode cX3_leave 10 = .ok (.iconst 1, 1) := dk_4 (dk_at dksX3_leave_0 10 rfl rfl)
theorem dX3_leave_11 : decode cX3_leave 11 = .ok (.invokevirtual 155, 3) := dk_182 0 155 (dk_at dksX3_leave_0 11 rfl rfl)
theorem dX3_leave_14 : decode cX3_leave 14 = .ok (.ireturn, 1) := dk_172 (dk_at dksX3_leave_0 14 rfl rfl)
abbrev cX3_goes : ByteArray := prog_14_method_35_code
def yX3_goes : MethodName := ⟨RX3, "goes", "(I)I"⟩
def dkwX3_goes_7 : List UInt8 := [42, 180, 0, 7, 16, 63, 29, 96, 3, 79, 42, 180, 0, 7, 3, 29, 79, 42, 28, 182, 0, 133, 172]
abbrev dktX3_goes_7 : List UInt8 := dkwX3_goes_7 ++ []
def dkwX3_goes_6 : List UInt8 := [29, 96, 3, 79, 42, 180, 0, 7, 16, 27, 29, 96, 3, 79, 42, 180, 0, 7, 16, 45, 29, 96, 3, 79]
abbrev dktX3_goes_6 : List UInt8 := dkwX3_goes_6 ++ dktX3_goes_7
def dkwX3_goes_5 : List UInt8 := [180, 0, 7, 16, 63, 21, 4, 96, 4, 96, 46, 79, 132, 4, 1, 167, 255, 159, 42, 180, 0, 7, 16, 9]
abbrev dktX3_goes_5 : List UInt8 := dkwX3_goes_5 ++ dktX3_goes_6
def dkwX3_goes_4 : List UInt8 := [180, 0, 7, 16, 45, 21, 4, 96, 4, 96, 46, 79, 42, 180, 0, 7, 16, 63, 21, 4, 96, 42]
abbrev dktX3_goes_4 : List UInt8 := dkwX3_goes_4 ++ dktX3_goes_5
def dkwX3_goes_3 : List UInt8 := [180, 0, 7, 16, 27, 21, 4, 96, 4, 96, 46, 79, 42, 180, 0, 7, 16, 45, 21, 4, 96, 42]
abbrev dktX3_goes_3 : List UInt8 := dkwX3_goes_3 ++ dktX3_goes_4
def dkwX3_goes_2 : List UInt8 := [180, 0, 7, 16, 9, 21, 4, 96, 4, 96, 46, 79, 42, 180, 0, 7, 16, 27, 21, 4, 96, 42]
abbrev dktX3_goes_2 : List UInt8 := dkwX3_goes_2 ++ dktX3_goes_3
def dkwX3_goes_1 : List UInt8 := [3, 46, 4, 100, 62, 27, 54, 4, 21, 4, 29, 162, 0, 97, 42, 180, 0, 7, 16, 9, 21, 4, 96, 42]
abbrev dktX3_goes_1 : List UInt8 := dkwX3_goes_1 ++ dktX3_goes_2
def dkwX3_goes_0 : List UInt8 := [42, 27, 182, 0, 139, 154, 0, 5, 2, 172, 42, 180, 0, 7, 16, 63, 27, 96, 46, 61, 42, 180, 0, 7]
abbrev dktX3_goes_0 : List UInt8 := dkwX3_goes_0 ++ dktX3_goes_1
theorem dksX3_goes_0 : cX3_goes.data.toList.drop 0 = dktX3_goes_0 := by decide +kernel
theorem dksX3_goes_1 : cX3_goes.data.toList.drop 24 = dktX3_goes_1 := dk_seg dksX3_goes_0 24 rfl rfl
theorem dksX3_goes_2 : cX3_goes.data.toList.drop 48 = dktX3_goes_2 := dk_seg dksX3_goes_1 24 rfl rfl
theorem dksX3_goes_3 : cX3_goes.data.toList.drop 70 = dktX3_goes_3 := dk_seg dksX3_goes_2 22 rfl rfl
theorem dksX3_goes_4 : cX3_goes.data.toList.drop 92 = dktX3_goes_4 := dk_seg dksX3_goes_3 22 rfl rfl
theorem dksX3_goes_5 : cX3_goes.data.toList.drop 114 = dktX3_goes_5 := dk_seg dksX3_goes_4 22 rfl rfl
theorem dksX3_goes_6 : cX3_goes.data.toList.drop 138 = dktX3_goes_6 := dk_seg dksX3_goes_5 24 rfl rfl
theorem dksX3_goes_7 : cX3_goes.data.toList.drop 162 = dktX3_goes_7 := dk_seg dksX3_goes_6 24 rfl rfl
theorem dX3_goes_0 : decode cX3_goes 0 = .ok (.aload_n 0, 1) := dk_42 (dk_at dksX3_goes_0 0 rfl rfl)
theorem dX3_goes_1 : decode cX3_goes 1 = .ok (.iload_n 1, 1) := dk_27 (dk_at dksX3_goes_0 1 rfl rfl)
theorem dX3_goes_2 : decode cX3_goes 2 = .ok (.invokevirtual 139, 3) := dk_182 0 139 (dk_at dksX3_goes_0 2 rfl rfl)
theorem dX3_goes_5 : decode cX3_goes 5 = .ok (.ifCond .ne 5, 3) := dk_154 0 5 (dk_at dksX3_goes_0 5 rfl rfl)
theorem dX3_goes_8 : decode cX3_goes 8 = .ok (.iconst (-1), 1) := dk_2 (dk_at dksX3_goes_0 8 rfl rfl)
theorem dX3_goes_9 : decode cX3_goes 9 = .ok (.ireturn, 1) := dk_172 (dk_at dksX3_goes_0 9 rfl rfl)
theorem dX3_goes_10 : decode cX3_goes 10 = .ok (.aload_n 0, 1) := dk_42 (dk_at dksX3_goes_0 10 rfl rfl)
theorem dX3_goes_11 : decode cX3_goes 11 = .ok (.getfield 7, 3) := dk_180 0 7 (dk_at dksX3_goes_0 11 rfl rfl)
theorem dX3_goes_14 : decode cX3_goes 14 = .ok (.bipush 63, 2) := dk_16 63 (dk_at dksX3_goes_0 14 rfl rfl)
theorem dX3_goes_16 : decode cX3_goes 16 = .ok (.iload_n 1, 1) := dk_27 (dk_at dksX3_goes_0 16 rfl rfl)
theorem dX3_goes_17 : decode cX3_goes 17 = .ok (.iadd, 1) := dk_96 (dk_at dksX3_goes_0 17 rfl rfl)
theorem dX3_goes_18 : decode cX3_goes 18 = .ok (.iaload, 1) := dk_46 (dk_at dksX3_goes_0 18 rfl rfl)
theorem dX3_goes_19 : decode cX3_goes 19 = .ok (.istore_n 2, 1) := dk_61 (dk_at dksX3_goes_0 19 rfl rfl)
theorem dX3_goes_20 : decode cX3_goes 20 = .ok (.aload_n 0, 1) := dk_42 (dk_at dksX3_goes_0 20 rfl rfl)
theorem dX3_goes_21 : decode cX3_goes 21 = .ok (.getfield 7, 3) := dk_180 0 7 (dk_at dksX3_goes_0 21 rfl rfl)
theorem dX3_goes_24 : decode cX3_goes 24 = .ok (.iconst 0, 1) := dk_3 (dk_at dksX3_goes_1 0 rfl rfl)
theorem dX3_goes_25 : decode cX3_goes 25 = .ok (.iaload, 1) := dk_46 (dk_at dksX3_goes_1 1 rfl rfl)
theorem dX3_goes_26 : decode cX3_goes 26 = .ok (.iconst 1, 1) := dk_4 (dk_at dksX3_goes_1 2 rfl rfl)
theorem dX3_goes_27 : decode cX3_goes 27 = .ok (.isub, 1) := dk_100 (dk_at dksX3_goes_1 3 rfl rfl)
theorem dX3_goes_28 : decode cX3_goes 28 = .ok (.istore_n 3, 1) := dk_62 (dk_at dksX3_goes_1 4 rfl rfl)
theorem dX3_goes_29 : decode cX3_goes 29 = .ok (.iload_n 1, 1) := dk_27 (dk_at dksX3_goes_1 5 rfl rfl)
theorem dX3_goes_30 : decode cX3_goes 30 = .ok (.istore 4, 2) := dk_54 4 (dk_at dksX3_goes_1 6 rfl rfl)
theorem dX3_goes_32 : decode cX3_goes 32 = .ok (.iload 4, 2) := dk_21 4 (dk_at dksX3_goes_1 8 rfl rfl)
theorem dX3_goes_34 : decode cX3_goes 34 = .ok (.iload_n 3, 1) := dk_29 (dk_at dksX3_goes_1 10 rfl rfl)
theorem dX3_goes_35 : decode cX3_goes 35 = .ok (.if_icmp .ge 97, 3) := dk_162 0 97 (dk_at dksX3_goes_1 11 rfl rfl)
theorem dX3_goes_38 : decode cX3_goes 38 = .ok (.aload_n 0, 1) := dk_42 (dk_at dksX3_goes_1 14 rfl rfl)
theorem dX3_goes_39 : decode cX3_goes 39 = .ok (.getfield 7, 3) := dk_180 0 7 (dk_at dksX3_goes_1 15 rfl rfl)
theorem dX3_goes_42 : decode cX3_goes 42 = .ok (.bipush 9, 2) := dk_16 9 (dk_at dksX3_goes_1 18 rfl rfl)
theorem dX3_goes_44 : decode cX3_goes 44 = .ok (.iload 4, 2) := dk_21 4 (dk_at dksX3_goes_1 20 rfl rfl)
theorem dX3_goes_46 : decode cX3_goes 46 = .ok (.iadd, 1) := dk_96 (dk_at dksX3_goes_1 22 rfl rfl)
theorem dX3_goes_47 : decode cX3_goes 47 = .ok (.aload_n 0, 1) := dk_42 (dk_at dksX3_goes_1 23 rfl rfl)
theorem dX3_goes_48 : decode cX3_goes 48 = .ok (.getfield 7, 3) := dk_180 0 7 (dk_at dksX3_goes_2 0 rfl rfl)
theorem dX3_goes_51 : decode cX3_goes 51 = .ok (.bipush 9, 2) := dk_16 9 (dk_at dksX3_goes_2 3 rfl rfl)
theorem dX3_goes_53 : decode cX3_goes 53 = .ok (.iload 4, 2) := dk_21 4 (dk_at dksX3_goes_2 5 rfl rfl)
theorem dX3_goes_55 : decode cX3_goes 55 = .ok (.iadd, 1) := dk_96 (dk_at dksX3_goes_2 7 rfl rfl)
theorem dX3_goes_56 : decode cX3_goes 56 = .ok (.iconst 1, 1) := dk_4 (dk_at dksX3_goes_2 8 rfl rfl)
theorem dX3_goes_57 : decode cX3_goes 57 = .ok (.iadd, 1) := dk_96 (dk_at dksX3_goes_2 9 rfl rfl)
theorem dX3_goes_58 : decode cX3_goes 58 = .ok (.iaload, 1) := dk_46 (dk_at dksX3_goes_2 10 rfl rfl)
theorem dX3_goes_59 : decode cX3_goes 59 = .ok (.iastore, 1) := dk_79 (dk_at dksX3_goes_2 11 rfl rfl)
theorem dX3_goes_60 : decode cX3_goes 60 = .ok (.aload_n 0, 1) := dk_42 (dk_at dksX3_goes_2 12 rfl rfl)
theorem dX3_goes_61 : decode cX3_goes 61 = .ok (.getfield 7, 3) := dk_180 0 7 (dk_at dksX3_goes_2 13 rfl rfl)
theorem dX3_goes_64 : decode cX3_goes 64 = .ok (.bipush 27, 2) := dk_16 27 (dk_at dksX3_goes_2 16 rfl rfl)
theorem dX3_goes_66 : decode cX3_goes 66 = .ok (.iload 4, 2) := dk_21 4 (dk_at dksX3_goes_2 18 rfl rfl)
theorem dX3_goes_68 : decode cX3_goes 68 = .ok (.iadd, 1) := dk_96 (dk_at dksX3_goes_2 20 rfl rfl)
theorem dX3_goes_69 : decode cX3_goes 69 = .ok (.aload_n 0, 1) := dk_42 (dk_at dksX3_goes_2 21 rfl rfl)
theorem dX3_goes_70 : decode cX3_goes 70 = .ok (.getfield 7, 3) := dk_180 0 7 (dk_at dksX3_goes_3 0 rfl rfl)
theorem dX3_goes_73 : decode cX3_goes 73 = .ok (.bipush 27, 2) := dk_16 27 (dk_at dksX3_goes_3 3 rfl rfl)
theorem dX3_goes_75 : decode cX3_goes 75 = .ok (.iload 4, 2) := dk_21 4 (dk_at dksX3_goes_3 5 rfl rfl)
theorem dX3_goes_77 : decode cX3_goes 77 = .ok (.iadd, 1) := dk_96 (dk_at dksX3_goes_3 7 rfl rfl)
theorem dX3_goes_78 : decode cX3_goes 78 = .ok (.iconst 1, 1) := dk_4 (dk_at dksX3_goes_3 8 rfl rfl)
theorem dX3_goes_79 : decode cX3_goes 79 = .ok (.iadd, 1) := dk_96 (dk_at dksX3_goes_3 9 rfl rfl)
theorem dX3_goes_80 : decode cX3_goes 80 = .ok (.iaload, 1) := dk_46 (dk_at dksX3_goes_3 10 rfl rfl)
theorem dX3_goes_81 : decode cX3_goes 81 = .ok (.iastore, 1) := dk_79 (dk_at dksX3_goes_3 11 rfl rfl)
theorem dX3_goes_82 : decode cX3_goes 82 = .ok (.aload_n 0, 1) := dk_42 (dk_at dksX3_goes_3 12 rfl rfl)
theorem dX3_goes_83 : decode cX3_goes 83 = .ok (.getfield 7, 3) := dk_180 0 7 (dk_at dksX3_goes_3 13 rfl rfl)
theorem dX3_goes_86 : decode cX3_goes 86 = .ok (.bipush 45, 2) := dk_16 45 (dk_at dksX3_goes_3 16 rfl rfl)
theorem dX3_goes_88 : decode cX3_goes 88 = .ok (.iload 4, 2) := dk_21 4 (dk_at dksX3_goes_3 18 rfl rfl)
theorem dX3_goes_90 : decode cX3_goes 90 = .ok (.iadd, 1) := dk_96 (dk_at dksX3_goes_3 20 rfl rfl)
theorem dX3_goes_91 : decode cX3_goes 91 = .ok (.aload_n 0, 1) := dk_42 (dk_at dksX3_goes_3 21 rfl rfl)
theorem dX3_goes_92 : decode cX3_goes 92 = .ok (.getfield 7, 3) := dk_180 0 7 (dk_at dksX3_goes_4 0 rfl rfl)
theorem dX3_goes_95 : decode cX3_goes 95 = .ok (.bipush 45, 2) := dk_16 45 (dk_at dksX3_goes_4 3 rfl rfl)
theorem dX3_goes_97 : decode cX3_goes 97 = .ok (.iload 4, 2) := dk_21 4 (dk_at dksX3_goes_4 5 rfl rfl)
theorem dX3_goes_99 : decode cX3_goes 99 = .ok (.iadd, 1) := dk_96 (dk_at dksX3_goes_4 7 rfl rfl)
theorem dX3_goes_100 : decode cX3_goes 100 = .ok (.iconst 1, 1) := dk_4 (dk_at dksX3_goes_4 8 rfl rfl)
theorem dX3_goes_101 : decode cX3_goes 101 = .ok (.iadd, 1) := dk_96 (dk_at dksX3_goes_4 9 rfl rfl)
theorem dX3_goes_102 : decode cX3_goes 102 = .ok (.iaload, 1) := dk_46 (dk_at dksX3_goes_4 10 rfl rfl)
theorem dX3_goes_103 : decode cX3_goes 103 = .ok (.iastore, 1) := dk_79 (dk_at dksX3_goes_4 11 rfl rfl)
theorem dX3_goes_104 : decode cX3_goes 104 = .ok (.aload_n 0, 1) := dk_42 (dk_at dksX3_goes_4 12 rfl rfl)
theorem dX3_goes_105 : decode cX3_goes 105 = .ok (.getfield 7, 3) := dk_180 0 7 (dk_at dksX3_goes_4 13 rfl rfl)
theorem dX3_goes_108 : decode cX3_goes 108 = .ok (.bipush 63, 2) := dk_16 63 (dk_at dksX3_goes_4 16 rfl rfl)
theorem dX3_goes_110 : decode cX3_goes 110 = .ok (.iload 4, 2) := dk_21 4 (dk_at dksX3_goes_4 18 rfl rfl)
theorem dX3_goes_112 : decode cX3_goes 112 = .ok (.iadd, 1) := dk_96 (dk_at dksX3_goes_4 20 rfl rfl)
theorem dX3_goes_113 : decode cX3_goes 113 = .ok (.aload_n 0, 1) := dk_42 (dk_at dksX3_goes_4 21 rfl rfl)
theorem dX3_goes_114 : decode cX3_goes 114 = .ok (.getfield 7, 3) := dk_180 0 7 (dk_at dksX3_goes_5 0 rfl rfl)
theorem dX3_goes_117 : decode cX3_goes 117 = .ok (.bipush 63, 2) := dk_16 63 (dk_at dksX3_goes_5 3 rfl rfl)
theorem dX3_goes_119 : decode cX3_goes 119 = .ok (.iload 4, 2) := dk_21 4 (dk_at dksX3_goes_5 5 rfl rfl)
theorem dX3_goes_121 : decode cX3_goes 121 = .ok (.iadd, 1) := dk_96 (dk_at dksX3_goes_5 7 rfl rfl)
theorem dX3_goes_122 : decode cX3_goes 122 = .ok (.iconst 1, 1) := dk_4 (dk_at dksX3_goes_5 8 rfl rfl)
theorem dX3_goes_123 : decode cX3_goes 123 = .ok (.iadd, 1) := dk_96 (dk_at dksX3_goes_5 9 rfl rfl)
theorem dX3_goes_124 : decode cX3_goes 124 = .ok (.iaload, 1) := dk_46 (dk_at dksX3_goes_5 10 rfl rfl)
theorem dX3_goes_125 : decode cX3_goes 125 = .ok (.iastore, 1) := dk_79 (dk_at dksX3_goes_5 11 rfl rfl)
theorem dX3_goes_126 : decode cX3_goes 126 = .ok (.iinc 4 1, 3) := dk_132 4 1 (dk_at dksX3_goes_5 12 rfl rfl)
theorem dX3_goes_129 : decode cX3_goes 129 = .ok (.goto (-97), 3) := dk_167 255 159 (dk_at dksX3_goes_5 15 rfl rfl)
theorem dX3_goes_132 : decode cX3_goes 132 = .ok (.aload_n 0, 1) := dk_42 (dk_at dksX3_goes_5 18 rfl rfl)
theorem dX3_goes_133 : decode cX3_goes 133 = .ok (.getfield 7, 3) := dk_180 0 7 (dk_at dksX3_goes_5 19 rfl rfl)
theorem dX3_goes_136 : decode cX3_goes 136 = .ok (.bipush 9, 2) := dk_16 9 (dk_at dksX3_goes_5 22 rfl rfl)
theorem dX3_goes_138 : decode cX3_goes 138 = .ok (.iload_n 3, 1) := dk_29 (dk_at dksX3_goes_6 0 rfl rfl)
theorem dX3_goes_139 : decode cX3_goes 139 = .ok (.iadd, 1) := dk_96 (dk_at dksX3_goes_6 1 rfl rfl)
theorem dX3_goes_140 : decode cX3_goes 140 = .ok (.iconst 0, 1) := dk_3 (dk_at dksX3_goes_6 2 rfl rfl)
theorem dX3_goes_141 : decode cX3_goes 141 = .ok (.iastore, 1) := dk_79 (dk_at dksX3_goes_6 3 rfl rfl)
theorem dX3_goes_142 : decode cX3_goes 142 = .ok (.aload_n 0, 1) := dk_42 (dk_at dksX3_goes_6 4 rfl rfl)
theorem dX3_goes_143 : decode cX3_goes 143 = .ok (.getfield 7, 3) := dk_180 0 7 (dk_at dksX3_goes_6 5 rfl rfl)
theorem dX3_goes_146 : decode cX3_goes 146 = .ok (.bipush 27, 2) := dk_16 27 (dk_at dksX3_goes_6 8 rfl rfl)
theorem dX3_goes_148 : decode cX3_goes 148 = .ok (.iload_n 3, 1) := dk_29 (dk_at dksX3_goes_6 10 rfl rfl)
theorem dX3_goes_149 : decode cX3_goes 149 = .ok (.iadd, 1) := dk_96 (dk_at dksX3_goes_6 11 rfl rfl)
theorem dX3_goes_150 : decode cX3_goes 150 = .ok (.iconst 0, 1) := dk_3 (dk_at dksX3_goes_6 12 rfl rfl)
theorem dX3_goes_151 : decode cX3_goes 151 = .ok (.iastore, 1) := dk_79 (dk_at dksX3_goes_6 13 rfl rfl)
theorem dX3_goes_152 : decode cX3_goes 152 = .ok (.aload_n 0, 1) := dk_42 (dk_at dksX3_goes_6 14 rfl rfl)
theorem dX3_goes_153 : decode cX3_goes 153 = .ok (.getfield 7, 3) := dk_180 0 7 (dk_at dksX3_goes_6 15 rfl rfl)
theorem dX3_goes_156 : decode cX3_goes 156 = .ok (.bipush 45, 2) := dk_16 45 (dk_at dksX3_goes_6 18 rfl rfl)
theorem dX3_goes_158 : decode cX3_goes 158 = .ok (.iload_n 3, 1) := dk_29 (dk_at dksX3_goes_6 20 rfl rfl)
theorem dX3_goes_159 : decode cX3_goes 159 = .ok (.iadd, 1) := dk_96 (dk_at dksX3_goes_6 21 rfl rfl)
theorem dX3_goes_160 : decode cX3_goes 160 = .ok (.iconst 0, 1) := dk_3 (dk_at dksX3_goes_6 22 rfl rfl)
theorem dX3_goes_161 : decode cX3_goes 161 = .ok (.iastore, 1) := dk_79 (dk_at dksX3_goes_6 23 rfl rfl)
theorem dX3_goes_162 : decode cX3_goes 162 = .ok (.aload_n 0, 1) := dk_42 (dk_at dksX3_goes_7 0 rfl rfl)
theorem dX3_goes_163 : decode cX3_goes 163 = .ok (.getfield 7, 3) := dk_180 0 7 (dk_at dksX3_goes_7 1 rfl rfl)
theorem dX3_goes_166 : decode cX3_goes 166 = .ok (.bipush 63, 2) := dk_16 63 (dk_at dksX3_goes_7 4 rfl rfl)
theorem dX3_goes_168 : decode cX3_goes 168 = .ok (.iload_n 3, 1) := dk_29 (dk_at dksX3_goes_7 6 rfl rfl)
theorem dX3_goes_169 : decode cX3_goes 169 = .ok (.iadd, 1) := dk_96 (dk_at dksX3_goes_7 7 rfl rfl)
theorem dX3_goes_170 : decode cX3_goes 170 = .ok (.iconst 0, 1) := dk_3 (dk_at dksX3_goes_7 8 rfl rfl)
theorem dX3_goes_171 : decode cX3_goes 171 = .ok (.iastore, 1) := dk_79 (dk_at dksX3_goes_7 9 rfl rfl)
theorem dX3_goes_172 : decode cX3_goes 172 = .ok (.aload_n 0, 1) := dk_42 (dk_at dksX3_goes_7 10 rfl rfl)
theorem dX3_goes_173 : decode cX3_goes 173 = .ok (.getfield 7, 3) := dk_180 0 7 (dk_at dksX3_goes_7 11 rfl rfl)
theorem dX3_goes_176 : decode cX3_goes 176 = .ok (.iconst 0, 1) := dk_3 (dk_at dksX3_goes_7 14 rfl rfl)
theorem dX3_goes_177 : decode cX3_goes 177 = .ok (.iload_n 3, 1) := dk_29 (dk_at dksX3_goes_7 15 rfl rfl)
theorem dX3_goes_178 : decode cX3_goes 178 = .ok (.iastore, 1) := dk_79 (dk_at dksX3_goes_7 16 rfl rfl)
theorem dX3_goes_179 : decode cX3_goes 179 = .ok (.aload_n 0, 1) := dk_42 (dk_at dksX3_goes_7 17 rfl rfl)
theorem dX3_goes_180 : decode cX3_goes 180 = .ok (.iload_n 2, 1) := dk_28 (dk_at dksX3_goes_7 18 rfl rfl)
theorem dX3_goes_181 : decode cX3_goes 181 = .ok (.invokevirtual 133, 3) := dk_182 0 133 (dk_at dksX3_goes_7 19 rfl rfl)
theorem dX3_goes_184 : decode cX3_goes 184 = .ok (.ireturn, 1) := dk_172 (dk_at dksX3_goes_7 22 rfl rfl)
abbrev cX3_isSheep : ByteArray := prog_14_method_11_code
def yX3_isSheep : MethodName := ⟨RX3, "isSheep", "(I)Z"⟩
def dkwX3_isSheep_0 : List UInt8 := [27, 3, 42, 180, 0, 7, 3, 46, 4, 100, 184, 0, 78, 172]
abbrev dktX3_isSheep_0 : List UInt8 := dkwX3_isSheep_0 ++ []
theorem dksX3_isSheep_0 : cX3_isSheep.data.toList.drop 0 = dktX3_isSheep_0 := by decide +kernel
theorem dX3_isSheep_0 : decode cX3_isSheep 0 = .ok (.iload_n 1, 1) := dk_27 (dk_at dksX3_isSheep_0 0 rfl rfl)
theorem dX3_isSheep_1 : decode cX3_isSheep 1 = .ok (.iconst 0, 1) := dk_3 (dk_at dksX3_isSheep_0 1 rfl rfl)
theorem dX3_isSheep_2 : decode cX3_isSheep 2 = .ok (.aload_n 0, 1) := dk_42 (dk_at dksX3_isSheep_0 2 rfl rfl)
theorem dX3_isSheep_3 : decode cX3_isSheep 3 = .ok (.getfield 7, 3) := dk_180 0 7 (dk_at dksX3_isSheep_0 3 rfl rfl)
theorem dX3_isSheep_6 : decode cX3_isSheep 6 = .ok (.iconst 0, 1) := dk_3 (dk_at dksX3_isSheep_0 6 rfl rfl)
theorem dX3_isSheep_7 : decode cX3_isSheep 7 = .ok (.iaload, 1) := dk_46 (dk_at dksX3_isSheep_0 7 rfl rfl)
theorem dX3_isSheep_8 : decode cX3_isSheep 8 = .ok (.iconst 1, 1) := dk_4 (dk_at dksX3_isSheep_0 8 rfl rfl)
theorem dX3_isSheep_9 : decode cX3_isSheep 9 = .ok (.isub, 1) := dk_100 (dk_at dksX3_isSheep_0 9 rfl rfl)
theorem dX3_isSheep_10 : decode cX3_isSheep 10 = .ok (.invokestatic 78, 3) := dk_184 0 78 (dk_at dksX3_isSheep_0 10 rfl rfl)
theorem dX3_isSheep_13 : decode cX3_isSheep 13 = .ok (.ireturn, 1) := dk_172 (dk_at dksX3_isSheep_0 13 rfl rfl)
abbrev cX3_strike : ByteArray := prog_14_method_47_code
def yX3_strike : MethodName := ⟨RX3, "strike", "(I)I"⟩
def dkwX3_strike_0 : List UInt8 := [42, 182, 0, 149, 42, 42, 27, 182, 0, 164, 4, 182, 0, 155, 172]
abbrev dktX3_strike_0 : List UInt8 := dkwX3_strike_0 ++ []
theorem dksX3_strike_0 : cX3_strike.data.toList.drop 0 = dktX3_strike_0 := by decide +kernel
theorem dX3_strike_0 : decode cX3_strike 0 = .ok (.aload_n 0, 1) := dk_42 (dk_at dksX3_strike_0 0 rfl rfl)
theorem dX3_strike_1 : decode cX3_strike 1 = .ok (.invokevirtual 149, 3) := dk_182 0 149 (dk_at dksX3_strike_0 1 rfl rfl)
theorem dX3_strike_4 : decode cX3_strike 4 = .ok (.aload_n 0, 1) := dk_42 (dk_at dksX3_strike_0 4 rfl rfl)
theorem dX3_strike_5 : decode cX3_strike 5 = .ok (.aload_n 0, 1) := dk_42 (dk_at dksX3_strike_0 5 rfl rfl)
theorem dX3_strike_6 : decode cX3_strike 6 = .ok (.iload_n 1, 1) := dk_27 (dk_at dksX3_strike_0 6 rfl rfl)
theorem dX3_strike_7 : decode cX3_strike 7 = .ok (.invokevirtual 164, 3) := dk_182 0 164 (dk_at dksX3_strike_0 7 rfl rfl)
theorem dX3_strike_10 : decode cX3_strike 10 = .ok (.iconst 1, 1) := dk_4 (dk_at dksX3_strike_0 10 rfl rfl)
theorem dX3_strike_11 : decode cX3_strike 11 = .ok (.invokevirtual 155, 3) := dk_182 0 155 (dk_at dksX3_strike_0 11 rfl rfl)
theorem dX3_strike_14 : decode cX3_strike 14 = .ok (.ireturn, 1) := dk_172 (dk_at dksX3_strike_0 14 rfl rfl)
abbrev cX3_strikes : ByteArray := prog_14_method_36_code
def yX3_strikes : MethodName := ⟨RX3, "strikes", "(I)I"⟩
def dkwX3_strikes_11 : List UInt8 := [180, 0, 7, 4, 29, 79, 42, 28, 182, 0, 133, 172]
abbrev dktX3_strikes_11 : List UInt8 := dkwX3_strikes_11 ++ []
def dkwX3_strikes_10 : List UInt8 := [167, 255, 203, 42, 180, 0, 7, 16, 81, 29, 96, 3, 79, 42, 180, 0, 7, 16, 87, 29, 96, 3, 79, 42]
abbrev dktX3_strikes_10 : List UInt8 := dkwX3_strikes_10 ++ dktX3_strikes_11
def dkwX3_strikes_9 : List UInt8 := [180, 0, 7, 16, 87, 21, 4, 96, 42, 180, 0, 7, 16, 87, 21, 4, 96, 4, 96, 46, 79, 132, 4, 1]
abbrev dktX3_strikes_9 : List UInt8 := dkwX3_strikes_9 ++ dktX3_strikes_10
def dkwX3_strikes_8 : List UInt8 := [42, 180, 0, 7, 16, 81, 21, 4, 96, 42, 180, 0, 7, 16, 81, 21, 4, 96, 4, 96, 46, 79, 42]
abbrev dktX3_strikes_8 : List UInt8 := dkwX3_strikes_8 ++ dktX3_strikes_9
def dkwX3_strikes_7 : List UInt8 := [132, 3, 1, 167, 255, 186, 42, 180, 0, 7, 4, 46, 4, 100, 62, 27, 54, 4, 21, 4, 29, 162, 0, 53]
abbrev dktX3_strikes_7 : List UInt8 := dkwX3_strikes_7 ++ dktX3_strikes_8
def dkwX3_strikes_6 : List UInt8 := [42, 180, 0, 7, 16, 6, 29, 96, 46, 4, 100, 167, 0, 12, 42, 180, 0, 7, 16, 6, 29, 96, 46, 79]
abbrev dktX3_strikes_6 : List UInt8 := dkwX3_strikes_6 ++ dktX3_strikes_7
def dkwX3_strikes_5 : List UInt8 := [29, 96, 46, 27, 160, 0, 7, 2, 167, 0, 39, 42, 180, 0, 7, 16, 6, 29, 96, 46, 27, 164, 0, 17]
abbrev dktX3_strikes_5 : List UInt8 := dkwX3_strikes_5 ++ dktX3_strikes_6
def dkwX3_strikes_4 : List UInt8 := [167, 255, 181, 3, 62, 29, 6, 162, 0, 71, 42, 180, 0, 7, 16, 6, 29, 96, 42, 180, 0, 7, 16, 6]
abbrev dktX3_strikes_4 : List UInt8 := dkwX3_strikes_4 ++ dktX3_strikes_5
def dkwX3_strikes_3 : List UInt8 := [16, 63, 29, 96, 46, 4, 100, 167, 0, 12, 42, 180, 0, 7, 16, 63, 29, 96, 46, 79, 132, 3, 1]
abbrev dktX3_strikes_3 : List UInt8 := dkwX3_strikes_3 ++ dktX3_strikes_4
def dkwX3_strikes_2 : List UInt8 := [160, 0, 7, 2, 167, 0, 39, 42, 180, 0, 7, 16, 63, 29, 96, 46, 27, 164, 0, 17, 42, 180, 0, 7]
abbrev dktX3_strikes_2 : List UInt8 := dkwX3_strikes_2 ++ dktX3_strikes_3
def dkwX3_strikes_1 : List UInt8 := [46, 162, 0, 71, 42, 180, 0, 7, 16, 63, 29, 96, 42, 180, 0, 7, 16, 63, 29, 96, 46, 27]
abbrev dktX3_strikes_1 : List UInt8 := dkwX3_strikes_1 ++ dktX3_strikes_2
def dkwX3_strikes_0 : List UInt8 := [42, 27, 182, 0, 142, 154, 0, 5, 2, 172, 42, 27, 182, 0, 113, 61, 3, 62, 29, 42, 180, 0, 7, 3]
abbrev dktX3_strikes_0 : List UInt8 := dkwX3_strikes_0 ++ dktX3_strikes_1
theorem dksX3_strikes_0 : cX3_strikes.data.toList.drop 0 = dktX3_strikes_0 := by decide +kernel
theorem dksX3_strikes_1 : cX3_strikes.data.toList.drop 24 = dktX3_strikes_1 := dk_seg dksX3_strikes_0 24 rfl rfl
theorem dksX3_strikes_2 : cX3_strikes.data.toList.drop 46 = dktX3_strikes_2 := dk_seg dksX3_strikes_1 22 rfl rfl
theorem dksX3_strikes_3 : cX3_strikes.data.toList.drop 70 = dktX3_strikes_3 := dk_seg dksX3_strikes_2 24 rfl rfl
theorem dksX3_strikes_4 : cX3_strikes.data.toList.drop 93 = dktX3_strikes_4 := dk_seg dksX3_strikes_3 23 rfl rfl
theorem dksX3_strikes_5 : cX3_strikes.data.toList.drop 117 = dktX3_strikes_5 := dk_seg dksX3_strikes_4 24 rfl rfl
theorem dksX3_strikes_6 : cX3_strikes.data.toList.drop 141 = dktX3_strikes_6 := dk_seg dksX3_strikes_5 24 rfl rfl
theorem dksX3_strikes_7 : cX3_strikes.data.toList.drop 165 = dktX3_strikes_7 := dk_seg dksX3_strikes_6 24 rfl rfl
theorem dksX3_strikes_8 : cX3_strikes.data.toList.drop 189 = dktX3_strikes_8 := dk_seg dksX3_strikes_7 24 rfl rfl
theorem dksX3_strikes_9 : cX3_strikes.data.toList.drop 212 = dktX3_strikes_9 := dk_seg dksX3_strikes_8 23 rfl rfl
theorem dksX3_strikes_10 : cX3_strikes.data.toList.drop 236 = dktX3_strikes_10 := dk_seg dksX3_strikes_9 24 rfl rfl
theorem dksX3_strikes_11 : cX3_strikes.data.toList.drop 260 = dktX3_strikes_11 := dk_seg dksX3_strikes_10 24 rfl rfl
theorem dX3_strikes_0 : decode cX3_strikes 0 = .ok (.aload_n 0, 1) := dk_42 (dk_at dksX3_strikes_0 0 rfl rfl)
theorem dX3_strikes_1 : decode cX3_strikes 1 = .ok (.iload_n 1, 1) := dk_27 (dk_at dksX3_strikes_0 1 rfl rfl)
theorem dX3_strikes_2 : decode cX3_strikes 2 = .ok (.invokevirtual 142, 3) := dk_182 0 142 (dk_at dksX3_strikes_0 2 rfl rfl)
theorem dX3_strikes_5 : decode cX3_strikes 5 = .ok (.ifCond .ne 5, 3) := dk_154 0 5 (dk_at dksX3_strikes_0 5 rfl rfl)
theorem dX3_strikes_8 : decode cX3_strikes 8 = .ok (.iconst (-1), 1) := dk_2 (dk_at dksX3_strikes_0 8 rfl rfl)
theorem dX3_strikes_9 : decode cX3_strikes 9 = .ok (.ireturn, 1) := dk_172 (dk_at dksX3_strikes_0 9 rfl rfl)
theorem dX3_strikes_10 : decode cX3_strikes 10 = .ok (.aload_n 0, 1) := dk_42 (dk_at dksX3_strikes_0 10 rfl rfl)
theorem dX3_strikes_11 : decode cX3_strikes 11 = .ok (.iload_n 1, 1) := dk_27 (dk_at dksX3_strikes_0 11 rfl rfl)
theorem dX3_strikes_12 : decode cX3_strikes 12 = .ok (.invokevirtual 113, 3) := dk_182 0 113 (dk_at dksX3_strikes_0 12 rfl rfl)
theorem dX3_strikes_15 : decode cX3_strikes 15 = .ok (.istore_n 2, 1) := dk_61 (dk_at dksX3_strikes_0 15 rfl rfl)
theorem dX3_strikes_16 : decode cX3_strikes 16 = .ok (.iconst 0, 1) := dk_3 (dk_at dksX3_strikes_0 16 rfl rfl)
theorem dX3_strikes_17 : decode cX3_strikes 17 = .ok (.istore_n 3, 1) := dk_62 (dk_at dksX3_strikes_0 17 rfl rfl)
theorem dX3_strikes_18 : decode cX3_strikes 18 = .ok (.iload_n 3, 1) := dk_29 (dk_at dksX3_strikes_0 18 rfl rfl)
theorem dX3_strikes_19 : decode cX3_strikes 19 = .ok (.aload_n 0, 1) := dk_42 (dk_at dksX3_strikes_0 19 rfl rfl)
theorem dX3_strikes_20 : decode cX3_strikes 20 = .ok (.getfield 7, 3) := dk_180 0 7 (dk_at dksX3_strikes_0 20 rfl rfl)
theorem dX3_strikes_23 : decode cX3_strikes 23 = .ok (.iconst 0, 1) := dk_3 (dk_at dksX3_strikes_0 23 rfl rfl)
theorem dX3_strikes_24 : decode cX3_strikes 24 = .ok (.iaload, 1) := dk_46 (dk_at dksX3_strikes_1 0 rfl rfl)
theorem dX3_strikes_25 : decode cX3_strikes 25 = .ok (.if_icmp .ge 71, 3) := dk_162 0 71 (dk_at dksX3_strikes_1 1 rfl rfl)
theorem dX3_strikes_28 : decode cX3_strikes 28 = .ok (.aload_n 0, 1) := dk_42 (dk_at dksX3_strikes_1 4 rfl rfl)
theorem dX3_strikes_29 : decode cX3_strikes 29 = .ok (.getfield 7, 3) := dk_180 0 7 (dk_at dksX3_strikes_1 5 rfl rfl)
theorem dX3_strikes_32 : decode cX3_strikes 32 = .ok (.bipush 63, 2) := dk_16 63 (dk_at dksX3_strikes_1 8 rfl rfl)
theorem dX3_strikes_34 : decode cX3_strikes 34 = .ok (.iload_n 3, 1) := dk_29 (dk_at dksX3_strikes_1 10 rfl rfl)
theorem dX3_strikes_35 : decode cX3_strikes 35 = .ok (.iadd, 1) := dk_96 (dk_at dksX3_strikes_1 11 rfl rfl)
theorem dX3_strikes_36 : decode cX3_strikes 36 = .ok (.aload_n 0, 1) := dk_42 (dk_at dksX3_strikes_1 12 rfl rfl)
theorem dX3_strikes_37 : decode cX3_strikes 37 = .ok (.getfield 7, 3) := dk_180 0 7 (dk_at dksX3_strikes_1 13 rfl rfl)
theorem dX3_strikes_40 : decode cX3_strikes 40 = .ok (.bipush 63, 2) := dk_16 63 (dk_at dksX3_strikes_1 16 rfl rfl)
theorem dX3_strikes_42 : decode cX3_strikes 42 = .ok (.iload_n 3, 1) := dk_29 (dk_at dksX3_strikes_1 18 rfl rfl)
theorem dX3_strikes_43 : decode cX3_strikes 43 = .ok (.iadd, 1) := dk_96 (dk_at dksX3_strikes_1 19 rfl rfl)
theorem dX3_strikes_44 : decode cX3_strikes 44 = .ok (.iaload, 1) := dk_46 (dk_at dksX3_strikes_1 20 rfl rfl)
theorem dX3_strikes_45 : decode cX3_strikes 45 = .ok (.iload_n 1, 1) := dk_27 (dk_at dksX3_strikes_1 21 rfl rfl)
theorem dX3_strikes_46 : decode cX3_strikes 46 = .ok (.if_icmp .ne 7, 3) := dk_160 0 7 (dk_at dksX3_strikes_2 0 rfl rfl)
theorem dX3_strikes_49 : decode cX3_strikes 49 = .ok (.iconst (-1), 1) := dk_2 (dk_at dksX3_strikes_2 3 rfl rfl)
theorem dX3_strikes_50 : decode cX3_strikes 50 = .ok (.goto 39, 3) := dk_167 0 39 (dk_at dksX3_strikes_2 4 rfl rfl)
theorem dX3_strikes_53 : decode cX3_strikes 53 = .ok (.aload_n 0, 1) := dk_42 (dk_at dksX3_strikes_2 7 rfl rfl)
theorem dX3_strikes_54 : decode cX3_strikes 54 = .ok (.getfield 7, 3) := dk_180 0 7 (dk_at dksX3_strikes_2 8 rfl rfl)
theorem dX3_strikes_57 : decode cX3_strikes 57 = .ok (.bipush 63, 2) := dk_16 63 (dk_at dksX3_strikes_2 11 rfl rfl)
theorem dX3_strikes_59 : decode cX3_strikes 59 = .ok (.iload_n 3, 1) := dk_29 (dk_at dksX3_strikes_2 13 rfl rfl)
theorem dX3_strikes_60 : decode cX3_strikes 60 = .ok (.iadd, 1) := dk_96 (dk_at dksX3_strikes_2 14 rfl rfl)
theorem dX3_strikes_61 : decode cX3_strikes 61 = .ok (.iaload, 1) := dk_46 (dk_at dksX3_strikes_2 15 rfl rfl)
theorem dX3_strikes_62 : decode cX3_strikes 62 = .ok (.iload_n 1, 1) := dk_27 (dk_at dksX3_strikes_2 16 rfl rfl)
theorem dX3_strikes_63 : decode cX3_strikes 63 = .ok (.if_icmp .le 17, 3) := dk_164 0 17 (dk_at dksX3_strikes_2 17 rfl rfl)
theorem dX3_strikes_66 : decode cX3_strikes 66 = .ok (.aload_n 0, 1) := dk_42 (dk_at dksX3_strikes_2 20 rfl rfl)
theorem dX3_strikes_67 : decode cX3_strikes 67 = .ok (.getfield 7, 3) := dk_180 0 7 (dk_at dksX3_strikes_2 21 rfl rfl)
theorem dX3_strikes_70 : decode cX3_strikes 70 = .ok (.bipush 63, 2) := dk_16 63 (dk_at dksX3_strikes_3 0 rfl rfl)
theorem dX3_strikes_72 : decode cX3_strikes 72 = .ok (.iload_n 3, 1) := dk_29 (dk_at dksX3_strikes_3 2 rfl rfl)
theorem dX3_strikes_73 : decode cX3_strikes 73 = .ok (.iadd, 1) := dk_96 (dk_at dksX3_strikes_3 3 rfl rfl)
theorem dX3_strikes_74 : decode cX3_strikes 74 = .ok (.iaload, 1) := dk_46 (dk_at dksX3_strikes_3 4 rfl rfl)
theorem dX3_strikes_75 : decode cX3_strikes 75 = .ok (.iconst 1, 1) := dk_4 (dk_at dksX3_strikes_3 5 rfl rfl)
theorem dX3_strikes_76 : decode cX3_strikes 76 = .ok (.isub, 1) := dk_100 (dk_at dksX3_strikes_3 6 rfl rfl)
theorem dX3_strikes_77 : decode cX3_strikes 77 = .ok (.goto 12, 3) := dk_167 0 12 (dk_at dksX3_strikes_3 7 rfl rfl)
theorem dX3_strikes_80 : decode cX3_strikes 80 = .ok (.aload_n 0, 1) := dk_42 (dk_at dksX3_strikes_3 10 rfl rfl)
theorem dX3_strikes_81 : decode cX3_strikes 81 = .ok (.getfield 7, 3) := dk_180 0 7 (dk_at dksX3_strikes_3 11 rfl rfl)
theorem dX3_strikes_84 : decode cX3_strikes 84 = .ok (.bipush 63, 2) := dk_16 63 (dk_at dksX3_strikes_3 14 rfl rfl)
theorem dX3_strikes_86 : decode cX3_strikes 86 = .ok (.iload_n 3, 1) := dk_29 (dk_at dksX3_strikes_3 16 rfl rfl)
theorem dX3_strikes_87 : decode cX3_strikes 87 = .ok (.iadd, 1) := dk_96 (dk_at dksX3_strikes_3 17 rfl rfl)
theorem dX3_strikes_88 : decode cX3_strikes 88 = .ok (.iaload, 1) := dk_46 (dk_at dksX3_strikes_3 18 rfl rfl)
theorem dX3_strikes_89 : decode cX3_strikes 89 = .ok (.iastore, 1) := dk_79 (dk_at dksX3_strikes_3 19 rfl rfl)
theorem dX3_strikes_90 : decode cX3_strikes 90 = .ok (.iinc 3 1, 3) := dk_132 3 1 (dk_at dksX3_strikes_3 20 rfl rfl)
theorem dX3_strikes_93 : decode cX3_strikes 93 = .ok (.goto (-75), 3) := dk_167 255 181 (dk_at dksX3_strikes_4 0 rfl rfl)
theorem dX3_strikes_96 : decode cX3_strikes 96 = .ok (.iconst 0, 1) := dk_3 (dk_at dksX3_strikes_4 3 rfl rfl)
theorem dX3_strikes_97 : decode cX3_strikes 97 = .ok (.istore_n 3, 1) := dk_62 (dk_at dksX3_strikes_4 4 rfl rfl)
theorem dX3_strikes_98 : decode cX3_strikes 98 = .ok (.iload_n 3, 1) := dk_29 (dk_at dksX3_strikes_4 5 rfl rfl)
theorem dX3_strikes_99 : decode cX3_strikes 99 = .ok (.iconst 3, 1) := dk_6 (dk_at dksX3_strikes_4 6 rfl rfl)
theorem dX3_strikes_100 : decode cX3_strikes 100 = .ok (.if_icmp .ge 71, 3) := dk_162 0 71 (dk_at dksX3_strikes_4 7 rfl rfl)
theorem dX3_strikes_103 : decode cX3_strikes 103 = .ok (.aload_n 0, 1) := dk_42 (dk_at dksX3_strikes_4 10 rfl rfl)
theorem dX3_strikes_104 : decode cX3_strikes 104 = .ok (.getfield 7, 3) := dk_180 0 7 (dk_at dksX3_strikes_4 11 rfl rfl)
theorem dX3_strikes_107 : decode cX3_strikes 107 = .ok (.bipush 6, 2) := dk_16 6 (dk_at dksX3_strikes_4 14 rfl rfl)
theorem dX3_strikes_109 : decode cX3_strikes 109 = .ok (.iload_n 3, 1) := dk_29 (dk_at dksX3_strikes_4 16 rfl rfl)
theorem dX3_strikes_110 : decode cX3_strikes 110 = .ok (.iadd, 1) := dk_96 (dk_at dksX3_strikes_4 17 rfl rfl)
theorem dX3_strikes_111 : decode cX3_strikes 111 = .ok (.aload_n 0, 1) := dk_42 (dk_at dksX3_strikes_4 18 rfl rfl)
theorem dX3_strikes_112 : decode cX3_strikes 112 = .ok (.getfield 7, 3) := dk_180 0 7 (dk_at dksX3_strikes_4 19 rfl rfl)
theorem dX3_strikes_115 : decode cX3_strikes 115 = .ok (.bipush 6, 2) := dk_16 6 (dk_at dksX3_strikes_4 22 rfl rfl)
theorem dX3_strikes_117 : decode cX3_strikes 117 = .ok (.iload_n 3, 1) := dk_29 (dk_at dksX3_strikes_5 0 rfl rfl)
theorem dX3_strikes_118 : decode cX3_strikes 118 = .ok (.iadd, 1) := dk_96 (dk_at dksX3_strikes_5 1 rfl rfl)
theorem dX3_strikes_119 : decode cX3_strikes 119 = .ok (.iaload, 1) := dk_46 (dk_at dksX3_strikes_5 2 rfl rfl)
theorem dX3_strikes_120 : decode cX3_strikes 120 = .ok (.iload_n 1, 1) := dk_27 (dk_at dksX3_strikes_5 3 rfl rfl)
theorem dX3_strikes_121 : decode cX3_strikes 121 = .ok (.if_icmp .ne 7, 3) := dk_160 0 7 (dk_at dksX3_strikes_5 4 rfl rfl)
theorem dX3_strikes_124 : decode cX3_strikes 124 = .ok (.iconst (-1), 1) := dk_2 (dk_at dksX3_strikes_5 7 rfl rfl)
theorem dX3_strikes_125 : decode cX3_strikes 125 = .ok (.goto 39, 3) := dk_167 0 39 (dk_at dksX3_strikes_5 8 rfl rfl)
theorem dX3_strikes_128 : decode cX3_strikes 128 = .ok (.aload_n 0, 1) := dk_42 (dk_at dksX3_strikes_5 11 rfl rfl)
theorem dX3_strikes_129 : decode cX3_strikes 129 = .ok (.getfield 7, 3) := dk_180 0 7 (dk_at dksX3_strikes_5 12 rfl rfl)
theorem dX3_strikes_132 : decode cX3_strikes 132 = .ok (.bipush 6, 2) := dk_16 6 (dk_at dksX3_strikes_5 15 rfl rfl)
theorem dX3_strikes_134 : decode cX3_strikes 134 = .ok (.iload_n 3, 1) := dk_29 (dk_at dksX3_strikes_5 17 rfl rfl)
theorem dX3_strikes_135 : decode cX3_strikes 135 = .ok (.iadd, 1) := dk_96 (dk_at dksX3_strikes_5 18 rfl rfl)
theorem dX3_strikes_136 : decode cX3_strikes 136 = .ok (.iaload, 1) := dk_46 (dk_at dksX3_strikes_5 19 rfl rfl)
theorem dX3_strikes_137 : decode cX3_strikes 137 = .ok (.iload_n 1, 1) := dk_27 (dk_at dksX3_strikes_5 20 rfl rfl)
theorem dX3_strikes_138 : decode cX3_strikes 138 = .ok (.if_icmp .le 17, 3) := dk_164 0 17 (dk_at dksX3_strikes_5 21 rfl rfl)
theorem dX3_strikes_141 : decode cX3_strikes 141 = .ok (.aload_n 0, 1) := dk_42 (dk_at dksX3_strikes_6 0 rfl rfl)
theorem dX3_strikes_142 : decode cX3_strikes 142 = .ok (.getfield 7, 3) := dk_180 0 7 (dk_at dksX3_strikes_6 1 rfl rfl)
theorem dX3_strikes_145 : decode cX3_strikes 145 = .ok (.bipush 6, 2) := dk_16 6 (dk_at dksX3_strikes_6 4 rfl rfl)
theorem dX3_strikes_147 : decode cX3_strikes 147 = .ok (.iload_n 3, 1) := dk_29 (dk_at dksX3_strikes_6 6 rfl rfl)
theorem dX3_strikes_148 : decode cX3_strikes 148 = .ok (.iadd, 1) := dk_96 (dk_at dksX3_strikes_6 7 rfl rfl)
theorem dX3_strikes_149 : decode cX3_strikes 149 = .ok (.iaload, 1) := dk_46 (dk_at dksX3_strikes_6 8 rfl rfl)
theorem dX3_strikes_150 : decode cX3_strikes 150 = .ok (.iconst 1, 1) := dk_4 (dk_at dksX3_strikes_6 9 rfl rfl)
theorem dX3_strikes_151 : decode cX3_strikes 151 = .ok (.isub, 1) := dk_100 (dk_at dksX3_strikes_6 10 rfl rfl)
theorem dX3_strikes_152 : decode cX3_strikes 152 = .ok (.goto 12, 3) := dk_167 0 12 (dk_at dksX3_strikes_6 11 rfl rfl)
theorem dX3_strikes_155 : decode cX3_strikes 155 = .ok (.aload_n 0, 1) := dk_42 (dk_at dksX3_strikes_6 14 rfl rfl)
theorem dX3_strikes_156 : decode cX3_strikes 156 = .ok (.getfield 7, 3) := dk_180 0 7 (dk_at dksX3_strikes_6 15 rfl rfl)
theorem dX3_strikes_159 : decode cX3_strikes 159 = .ok (.bipush 6, 2) := dk_16 6 (dk_at dksX3_strikes_6 18 rfl rfl)
theorem dX3_strikes_161 : decode cX3_strikes 161 = .ok (.iload_n 3, 1) := dk_29 (dk_at dksX3_strikes_6 20 rfl rfl)
theorem dX3_strikes_162 : decode cX3_strikes 162 = .ok (.iadd, 1) := dk_96 (dk_at dksX3_strikes_6 21 rfl rfl)
theorem dX3_strikes_163 : decode cX3_strikes 163 = .ok (.iaload, 1) := dk_46 (dk_at dksX3_strikes_6 22 rfl rfl)
theorem dX3_strikes_164 : decode cX3_strikes 164 = .ok (.iastore, 1) := dk_79 (dk_at dksX3_strikes_6 23 rfl rfl)
theorem dX3_strikes_165 : decode cX3_strikes 165 = .ok (.iinc 3 1, 3) := dk_132 3 1 (dk_at dksX3_strikes_7 0 rfl rfl)
theorem dX3_strikes_168 : decode cX3_strikes 168 = .ok (.goto (-70), 3) := dk_167 255 186 (dk_at dksX3_strikes_7 3 rfl rfl)
theorem dX3_strikes_171 : decode cX3_strikes 171 = .ok (.aload_n 0, 1) := dk_42 (dk_at dksX3_strikes_7 6 rfl rfl)
theorem dX3_strikes_172 : decode cX3_strikes 172 = .ok (.getfield 7, 3) := dk_180 0 7 (dk_at dksX3_strikes_7 7 rfl rfl)
theorem dX3_strikes_175 : decode cX3_strikes 175 = .ok (.iconst 1, 1) := dk_4 (dk_at dksX3_strikes_7 10 rfl rfl)
theorem dX3_strikes_176 : decode cX3_strikes 176 = .ok (.iaload, 1) := dk_46 (dk_at dksX3_strikes_7 11 rfl rfl)
theorem dX3_strikes_177 : decode cX3_strikes 177 = .ok (.iconst 1, 1) := dk_4 (dk_at dksX3_strikes_7 12 rfl rfl)
theorem dX3_strikes_178 : decode cX3_strikes 178 = .ok (.isub, 1) := dk_100 (dk_at dksX3_strikes_7 13 rfl rfl)
theorem dX3_strikes_179 : decode cX3_strikes 179 = .ok (.istore_n 3, 1) := dk_62 (dk_at dksX3_strikes_7 14 rfl rfl)
theorem dX3_strikes_180 : decode cX3_strikes 180 = .ok (.iload_n 1, 1) := dk_27 (dk_at dksX3_strikes_7 15 rfl rfl)
theorem dX3_strikes_181 : decode cX3_strikes 181 = .ok (.istore 4, 2) := dk_54 4 (dk_at dksX3_strikes_7 16 rfl rfl)
theorem dX3_strikes_183 : decode cX3_strikes 183 = .ok (.iload 4, 2) := dk_21 4 (dk_at dksX3_strikes_7 18 rfl rfl)
theorem dX3_strikes_185 : decode cX3_strikes 185 = .ok (.iload_n 3, 1) := dk_29 (dk_at dksX3_strikes_7 20 rfl rfl)
theorem dX3_strikes_186 : decode cX3_strikes 186 = .ok (.if_icmp .ge 53, 3) := dk_162 0 53 (dk_at dksX3_strikes_7 21 rfl rfl)
theorem dX3_strikes_189 : decode cX3_strikes 189 = .ok (.aload_n 0, 1) := dk_42 (dk_at dksX3_strikes_8 0 rfl rfl)
theorem dX3_strikes_190 : decode cX3_strikes 190 = .ok (.getfield 7, 3) := dk_180 0 7 (dk_at dksX3_strikes_8 1 rfl rfl)
theorem dX3_strikes_193 : decode cX3_strikes 193 = .ok (.bipush 81, 2) := dk_16 81 (dk_at dksX3_strikes_8 4 rfl rfl)
theorem dX3_strikes_195 : decode cX3_strikes 195 = .ok (.iload 4, 2) := dk_21 4 (dk_at dksX3_strikes_8 6 rfl rfl)
theorem dX3_strikes_197 : decode cX3_strikes 197 = .ok (.iadd, 1) := dk_96 (dk_at dksX3_strikes_8 8 rfl rfl)
theorem dX3_strikes_198 : decode cX3_strikes 198 = .ok (.aload_n 0, 1) := dk_42 (dk_at dksX3_strikes_8 9 rfl rfl)
theorem dX3_strikes_199 : decode cX3_strikes 199 = .ok (.getfield 7, 3) := dk_180 0 7 (dk_at dksX3_strikes_8 10 rfl rfl)
theorem dX3_strikes_202 : decode cX3_strikes 202 = .ok (.bipush 81, 2) := dk_16 81 (dk_at dksX3_strikes_8 13 rfl rfl)
theorem dX3_strikes_204 : decode cX3_strikes 204 = .ok (.iload 4, 2) := dk_21 4 (dk_at dksX3_strikes_8 15 rfl rfl)
theorem dX3_strikes_206 : decode cX3_strikes 206 = .ok (.iadd, 1) := dk_96 (dk_at dksX3_strikes_8 17 rfl rfl)
theorem dX3_strikes_207 : decode cX3_strikes 207 = .ok (.iconst 1, 1) := dk_4 (dk_at dksX3_strikes_8 18 rfl rfl)
theorem dX3_strikes_208 : decode cX3_strikes 208 = .ok (.iadd, 1) := dk_96 (dk_at dksX3_strikes_8 19 rfl rfl)
theorem dX3_strikes_209 : decode cX3_strikes 209 = .ok (.iaload, 1) := dk_46 (dk_at dksX3_strikes_8 20 rfl rfl)
theorem dX3_strikes_210 : decode cX3_strikes 210 = .ok (.iastore, 1) := dk_79 (dk_at dksX3_strikes_8 21 rfl rfl)
theorem dX3_strikes_211 : decode cX3_strikes 211 = .ok (.aload_n 0, 1) := dk_42 (dk_at dksX3_strikes_8 22 rfl rfl)
theorem dX3_strikes_212 : decode cX3_strikes 212 = .ok (.getfield 7, 3) := dk_180 0 7 (dk_at dksX3_strikes_9 0 rfl rfl)
theorem dX3_strikes_215 : decode cX3_strikes 215 = .ok (.bipush 87, 2) := dk_16 87 (dk_at dksX3_strikes_9 3 rfl rfl)
theorem dX3_strikes_217 : decode cX3_strikes 217 = .ok (.iload 4, 2) := dk_21 4 (dk_at dksX3_strikes_9 5 rfl rfl)
theorem dX3_strikes_219 : decode cX3_strikes 219 = .ok (.iadd, 1) := dk_96 (dk_at dksX3_strikes_9 7 rfl rfl)
theorem dX3_strikes_220 : decode cX3_strikes 220 = .ok (.aload_n 0, 1) := dk_42 (dk_at dksX3_strikes_9 8 rfl rfl)
theorem dX3_strikes_221 : decode cX3_strikes 221 = .ok (.getfield 7, 3) := dk_180 0 7 (dk_at dksX3_strikes_9 9 rfl rfl)
theorem dX3_strikes_224 : decode cX3_strikes 224 = .ok (.bipush 87, 2) := dk_16 87 (dk_at dksX3_strikes_9 12 rfl rfl)
theorem dX3_strikes_226 : decode cX3_strikes 226 = .ok (.iload 4, 2) := dk_21 4 (dk_at dksX3_strikes_9 14 rfl rfl)
theorem dX3_strikes_228 : decode cX3_strikes 228 = .ok (.iadd, 1) := dk_96 (dk_at dksX3_strikes_9 16 rfl rfl)
theorem dX3_strikes_229 : decode cX3_strikes 229 = .ok (.iconst 1, 1) := dk_4 (dk_at dksX3_strikes_9 17 rfl rfl)
theorem dX3_strikes_230 : decode cX3_strikes 230 = .ok (.iadd, 1) := dk_96 (dk_at dksX3_strikes_9 18 rfl rfl)
theorem dX3_strikes_231 : decode cX3_strikes 231 = .ok (.iaload, 1) := dk_46 (dk_at dksX3_strikes_9 19 rfl rfl)
theorem dX3_strikes_232 : decode cX3_strikes 232 = .ok (.iastore, 1) := dk_79 (dk_at dksX3_strikes_9 20 rfl rfl)
theorem dX3_strikes_233 : decode cX3_strikes 233 = .ok (.iinc 4 1, 3) := dk_132 4 1 (dk_at dksX3_strikes_9 21 rfl rfl)
theorem dX3_strikes_236 : decode cX3_strikes 236 = .ok (.goto (-53), 3) := dk_167 255 203 (dk_at dksX3_strikes_10 0 rfl rfl)
theorem dX3_strikes_239 : decode cX3_strikes 239 = .ok (.aload_n 0, 1) := dk_42 (dk_at dksX3_strikes_10 3 rfl rfl)
theorem dX3_strikes_240 : decode cX3_strikes 240 = .ok (.getfield 7, 3) := dk_180 0 7 (dk_at dksX3_strikes_10 4 rfl rfl)
theorem dX3_strikes_243 : decode cX3_strikes 243 = .ok (.bipush 81, 2) := dk_16 81 (dk_at dksX3_strikes_10 7 rfl rfl)
theorem dX3_strikes_245 : decode cX3_strikes 245 = .ok (.iload_n 3, 1) := dk_29 (dk_at dksX3_strikes_10 9 rfl rfl)
theorem dX3_strikes_246 : decode cX3_strikes 246 = .ok (.iadd, 1) := dk_96 (dk_at dksX3_strikes_10 10 rfl rfl)
theorem dX3_strikes_247 : decode cX3_strikes 247 = .ok (.iconst 0, 1) := dk_3 (dk_at dksX3_strikes_10 11 rfl rfl)
theorem dX3_strikes_248 : decode cX3_strikes 248 = .ok (.iastore, 1) := dk_79 (dk_at dksX3_strikes_10 12 rfl rfl)
theorem dX3_strikes_249 : decode cX3_strikes 249 = .ok (.aload_n 0, 1) := dk_42 (dk_at dksX3_strikes_10 13 rfl rfl)
theorem dX3_strikes_250 : decode cX3_strikes 250 = .ok (.getfield 7, 3) := dk_180 0 7 (dk_at dksX3_strikes_10 14 rfl rfl)
theorem dX3_strikes_253 : decode cX3_strikes 253 = .ok (.bipush 87, 2) := dk_16 87 (dk_at dksX3_strikes_10 17 rfl rfl)
theorem dX3_strikes_255 : decode cX3_strikes 255 = .ok (.iload_n 3, 1) := dk_29 (dk_at dksX3_strikes_10 19 rfl rfl)
theorem dX3_strikes_256 : decode cX3_strikes 256 = .ok (.iadd, 1) := dk_96 (dk_at dksX3_strikes_10 20 rfl rfl)
theorem dX3_strikes_257 : decode cX3_strikes 257 = .ok (.iconst 0, 1) := dk_3 (dk_at dksX3_strikes_10 21 rfl rfl)
theorem dX3_strikes_258 : decode cX3_strikes 258 = .ok (.iastore, 1) := dk_79 (dk_at dksX3_strikes_10 22 rfl rfl)
theorem dX3_strikes_259 : decode cX3_strikes 259 = .ok (.aload_n 0, 1) := dk_42 (dk_at dksX3_strikes_10 23 rfl rfl)
theorem dX3_strikes_260 : decode cX3_strikes 260 = .ok (.getfield 7, 3) := dk_180 0 7 (dk_at dksX3_strikes_11 0 rfl rfl)
theorem dX3_strikes_263 : decode cX3_strikes 263 = .ok (.iconst 1, 1) := dk_4 (dk_at dksX3_strikes_11 3 rfl rfl)
theorem dX3_strikes_264 : decode cX3_strikes 264 = .ok (.iload_n 3, 1) := dk_29 (dk_at dksX3_strikes_11 4 rfl rfl)
theorem dX3_strikes_265 : decode cX3_strikes 265 = .ok (.iastore, 1) := dk_79 (dk_at dksX3_strikes_11 5 rfl rfl)
theorem dX3_strikes_266 : decode cX3_strikes 266 = .ok (.aload_n 0, 1) := dk_42 (dk_at dksX3_strikes_11 6 rfl rfl)
theorem dX3_strikes_267 : decode cX3_strikes 267 = .ok (.iload_n 2, 1) := dk_28 (dk_at dksX3_strikes_11 7 rfl rfl)
theorem dX3_strikes_268 : decode cX3_strikes 268 = .ok (.invokevirtual 133, 3) := dk_182 0 133 (dk_at dksX3_strikes_11 8 rfl rfl)
theorem dX3_strikes_271 : decode cX3_strikes 271 = .ok (.ireturn, 1) := dk_172 (dk_at dksX3_strikes_11 11 rfl rfl)
abbrev cX3_isHut : ByteArray := prog_14_method_12_code
def yX3_isHut : MethodName := ⟨RX3, "isHut", "(I)Z"⟩
def dkwX3_isHut_0 : List UInt8 := [27, 3, 42, 180, 0, 7, 4, 46, 4, 100, 184, 0, 78, 172]
abbrev dktX3_isHut_0 : List UInt8 := dkwX3_isHut_0 ++ []
theorem dksX3_isHut_0 : cX3_isHut.data.toList.drop 0 = dktX3_isHut_0 := by decide +kernel
theorem dX3_isHut_0 : decode cX3_isHut 0 = .ok (.iload_n 1, 1) := dk_27 (dk_at dksX3_isHut_0 0 rfl rfl)
theorem dX3_isHut_1 : decode cX3_isHut 1 = .ok (.iconst 0, 1) := dk_3 (dk_at dksX3_isHut_0 1 rfl rfl)
theorem dX3_isHut_2 : decode cX3_isHut 2 = .ok (.aload_n 0, 1) := dk_42 (dk_at dksX3_isHut_0 2 rfl rfl)
theorem dX3_isHut_3 : decode cX3_isHut 3 = .ok (.getfield 7, 3) := dk_180 0 7 (dk_at dksX3_isHut_0 3 rfl rfl)
theorem dX3_isHut_6 : decode cX3_isHut 6 = .ok (.iconst 1, 1) := dk_4 (dk_at dksX3_isHut_0 6 rfl rfl)
theorem dX3_isHut_7 : decode cX3_isHut 7 = .ok (.iaload, 1) := dk_46 (dk_at dksX3_isHut_0 7 rfl rfl)
theorem dX3_isHut_8 : decode cX3_isHut 8 = .ok (.iconst 1, 1) := dk_4 (dk_at dksX3_isHut_0 8 rfl rfl)
theorem dX3_isHut_9 : decode cX3_isHut 9 = .ok (.isub, 1) := dk_100 (dk_at dksX3_isHut_0 9 rfl rfl)
theorem dX3_isHut_10 : decode cX3_isHut 10 = .ok (.invokestatic 78, 3) := dk_184 0 78 (dk_at dksX3_isHut_0 10 rfl rfl)
theorem dX3_isHut_13 : decode cX3_isHut 13 = .ok (.ireturn, 1) := dk_172 (dk_at dksX3_isHut_0 13 rfl rfl)
abbrev cX3_flock : ByteArray := prog_14_method_19_code
def yX3_flock : MethodName := ⟨RX3, "flock", "(I)I"⟩
def dkwX3_flock_1 : List UInt8 := [27, 160, 0, 7, 4, 167, 0, 4, 3, 96, 61, 132, 3, 1, 167, 255, 222, 28, 172]
abbrev dktX3_flock_1 : List UInt8 := dkwX3_flock_1 ++ []
def dkwX3_flock_0 : List UInt8 := [3, 61, 3, 62, 29, 42, 180, 0, 7, 3, 46, 162, 0, 30, 28, 42, 180, 0, 7, 16, 63, 29, 96, 46]
abbrev dktX3_flock_0 : List UInt8 := dkwX3_flock_0 ++ dktX3_flock_1
theorem dksX3_flock_0 : cX3_flock.data.toList.drop 0 = dktX3_flock_0 := by decide +kernel
theorem dksX3_flock_1 : cX3_flock.data.toList.drop 24 = dktX3_flock_1 := dk_seg dksX3_flock_0 24 rfl rfl
theorem dX3_flock_0 : decode cX3_flock 0 = .ok (.iconst 0, 1) := dk_3 (dk_at dksX3_flock_0 0 rfl rfl)
theorem dX3_flock_1 : decode cX3_flock 1 = .ok (.istore_n 2, 1) := dk_61 (dk_at dksX3_flock_0 1 rfl rfl)
theorem dX3_flock_2 : decode cX3_flock 2 = .ok (.iconst 0, 1) := dk_3 (dk_at dksX3_flock_0 2 rfl rfl)
theorem dX3_flock_3 : decode cX3_flock 3 = .ok (.istore_n 3, 1) := dk_62 (dk_at dksX3_flock_0 3 rfl rfl)
theorem dX3_flock_4 : decode cX3_flock 4 = .ok (.iload_n 3, 1) := dk_29 (dk_at dksX3_flock_0 4 rfl rfl)
theorem dX3_flock_5 : decode cX3_flock 5 = .ok (.aload_n 0, 1) := dk_42 (dk_at dksX3_flock_0 5 rfl rfl)
theorem dX3_flock_6 : decode cX3_flock 6 = .ok (.getfield 7, 3) := dk_180 0 7 (dk_at dksX3_flock_0 6 rfl rfl)
theorem dX3_flock_9 : decode cX3_flock 9 = .ok (.iconst 0, 1) := dk_3 (dk_at dksX3_flock_0 9 rfl rfl)
theorem dX3_flock_10 : decode cX3_flock 10 = .ok (.iaload, 1) := dk_46 (dk_at dksX3_flock_0 10 rfl rfl)
theorem dX3_flock_11 : decode cX3_flock 11 = .ok (.if_icmp .ge 30, 3) := dk_162 0 30 (dk_at dksX3_flock_0 11 rfl rfl)
theorem dX3_flock_14 : decode cX3_flock 14 = .ok (.iload_n 2, 1) := dk_28 (dk_at dksX3_flock_0 14 rfl rfl)
theorem dX3_flock_15 : decode cX3_flock 15 = .ok (.aload_n 0, 1) := dk_42 (dk_at dksX3_flock_0 15 rfl rfl)
theorem dX3_flock_16 : decode cX3_flock 16 = .ok (.getfield 7, 3) := dk_180 0 7 (dk_at dksX3_flock_0 16 rfl rfl)
theorem dX3_flock_19 : decode cX3_flock 19 = .ok (.bipush 63, 2) := dk_16 63 (dk_at dksX3_flock_0 19 rfl rfl)
theorem dX3_flock_21 : decode cX3_flock 21 = .ok (.iload_n 3, 1) := dk_29 (dk_at dksX3_flock_0 21 rfl rfl)
theorem dX3_flock_22 : decode cX3_flock 22 = .ok (.iadd, 1) := dk_96 (dk_at dksX3_flock_0 22 rfl rfl)
theorem dX3_flock_23 : decode cX3_flock 23 = .ok (.iaload, 1) := dk_46 (dk_at dksX3_flock_0 23 rfl rfl)
theorem dX3_flock_24 : decode cX3_flock 24 = .ok (.iload_n 1, 1) := dk_27 (dk_at dksX3_flock_1 0 rfl rfl)
theorem dX3_flock_25 : decode cX3_flock 25 = .ok (.if_icmp .ne 7, 3) := dk_160 0 7 (dk_at dksX3_flock_1 1 rfl rfl)
theorem dX3_flock_28 : decode cX3_flock 28 = .ok (.iconst 1, 1) := dk_4 (dk_at dksX3_flock_1 4 rfl rfl)
theorem dX3_flock_29 : decode cX3_flock 29 = .ok (.goto 4, 3) := dk_167 0 4 (dk_at dksX3_flock_1 5 rfl rfl)
theorem dX3_flock_32 : decode cX3_flock 32 = .ok (.iconst 0, 1) := dk_3 (dk_at dksX3_flock_1 8 rfl rfl)
theorem dX3_flock_33 : decode cX3_flock 33 = .ok (.iadd, 1) := dk_96 (dk_at dksX3_flock_1 9 rfl rfl)
theorem dX3_flock_34 : decode cX3_flock 34 = .ok (.istore_n 2, 1) := dk_61 (dk_at dksX3_flock_1 10 rfl rfl)
theorem dX3_flock_35 : decode cX3_flock 35 = .ok (.iinc 3 1, 3) := dk_132 3 1 (dk_at dksX3_flock_1 11 rfl rfl)
theorem dX3_flock_38 : decode cX3_flock 38 = .ok (.goto (-34), 3) := dk_167 255 222 (dk_at dksX3_flock_1 14 rfl rfl)
theorem dX3_flock_41 : decode cX3_flock 41 = .ok (.iload_n 2, 1) := dk_28 (dk_at dksX3_flock_1 17 rfl rfl)
theorem dX3_flock_42 : decode cX3_flock 42 = .ok (.ireturn, 1) := dk_172 (dk_at dksX3_flock_1 18 rfl rfl)
abbrev cX3_move : ByteArray := prog_14_method_48_code
def yX3_move : MethodName := ⟨RX3, "move", "(III)I"⟩
def dkwX3_move_0 : List UInt8 := [42, 182, 0, 149, 42, 42, 27, 28, 29, 182, 0, 167, 6, 182, 0, 155, 172]
abbrev dktX3_move_0 : List UInt8 := dkwX3_move_0 ++ []
theorem dksX3_move_0 : cX3_move.data.toList.drop 0 = dktX3_move_0 := by decide +kernel
theorem dX3_move_0 : decode cX3_move 0 = .ok (.aload_n 0, 1) := dk_42 (dk_at dksX3_move_0 0 rfl rfl)
theorem dX3_move_1 : decode cX3_move 1 = .ok (.invokevirtual 149, 3) := dk_182 0 149 (dk_at dksX3_move_0 1 rfl rfl)
theorem dX3_move_4 : decode cX3_move 4 = .ok (.aload_n 0, 1) := dk_42 (dk_at dksX3_move_0 4 rfl rfl)
theorem dX3_move_5 : decode cX3_move 5 = .ok (.aload_n 0, 1) := dk_42 (dk_at dksX3_move_0 5 rfl rfl)
theorem dX3_move_6 : decode cX3_move 6 = .ok (.iload_n 1, 1) := dk_27 (dk_at dksX3_move_0 6 rfl rfl)
theorem dX3_move_7 : decode cX3_move 7 = .ok (.iload_n 2, 1) := dk_28 (dk_at dksX3_move_0 7 rfl rfl)
theorem dX3_move_8 : decode cX3_move 8 = .ok (.iload_n 3, 1) := dk_29 (dk_at dksX3_move_0 8 rfl rfl)
theorem dX3_move_9 : decode cX3_move 9 = .ok (.invokevirtual 167, 3) := dk_182 0 167 (dk_at dksX3_move_0 9 rfl rfl)
theorem dX3_move_12 : decode cX3_move 12 = .ok (.iconst 3, 1) := dk_6 (dk_at dksX3_move_0 12 rfl rfl)
theorem dX3_move_13 : decode cX3_move 13 = .ok (.invokevirtual 155, 3) := dk_182 0 155 (dk_at dksX3_move_0 13 rfl rfl)
theorem dX3_move_16 : decode cX3_move 16 = .ok (.ireturn, 1) := dk_172 (dk_at dksX3_move_0 16 rfl rfl)
abbrev cX3_moves : ByteArray := prog_14_method_37_code
def yX3_moves : MethodName := ⟨RX3, "moves", "(III)I"⟩
def dkwX3_moves_3 : List UInt8 := [79, 42, 21, 4, 182, 0, 133, 172]
abbrev dktX3_moves_3 : List UInt8 := dkwX3_moves_3 ++ []
def dkwX3_moves_2 : List UInt8 := [182, 0, 85, 54, 4, 42, 180, 0, 7, 16, 81, 27, 96, 28, 79, 42, 180, 0, 7, 16, 87, 27, 96, 29]
abbrev dktX3_moves_2 : List UInt8 := dkwX3_moves_2 ++ dktX3_moves_3
def dkwX3_moves_1 : List UInt8 := [182, 0, 136, 2, 159, 0, 15, 42, 5, 42, 28, 29, 182, 0, 136, 182, 0, 130, 172, 42, 28, 29, 27]
abbrev dktX3_moves_1 : List UInt8 := dkwX3_moves_1 ++ dktX3_moves_2
def dkwX3_moves_0 : List UInt8 := [42, 27, 182, 0, 142, 154, 0, 5, 2, 172, 28, 29, 184, 0, 126, 154, 0, 6, 16, 254, 172, 42, 28, 29]
abbrev dktX3_moves_0 : List UInt8 := dkwX3_moves_0 ++ dktX3_moves_1
theorem dksX3_moves_0 : cX3_moves.data.toList.drop 0 = dktX3_moves_0 := by decide +kernel
theorem dksX3_moves_1 : cX3_moves.data.toList.drop 24 = dktX3_moves_1 := dk_seg dksX3_moves_0 24 rfl rfl
theorem dksX3_moves_2 : cX3_moves.data.toList.drop 47 = dktX3_moves_2 := dk_seg dksX3_moves_1 23 rfl rfl
theorem dksX3_moves_3 : cX3_moves.data.toList.drop 71 = dktX3_moves_3 := dk_seg dksX3_moves_2 24 rfl rfl
theorem dX3_moves_0 : decode cX3_moves 0 = .ok (.aload_n 0, 1) := dk_42 (dk_at dksX3_moves_0 0 rfl rfl)
theorem dX3_moves_1 : decode cX3_moves 1 = .ok (.iload_n 1, 1) := dk_27 (dk_at dksX3_moves_0 1 rfl rfl)
theorem dX3_moves_2 : decode cX3_moves 2 = .ok (.invokevirtual 142, 3) := dk_182 0 142 (dk_at dksX3_moves_0 2 rfl rfl)
theorem dX3_moves_5 : decode cX3_moves 5 = .ok (.ifCond .ne 5, 3) := dk_154 0 5 (dk_at dksX3_moves_0 5 rfl rfl)
theorem dX3_moves_8 : decode cX3_moves 8 = .ok (.iconst (-1), 1) := dk_2 (dk_at dksX3_moves_0 8 rfl rfl)
theorem dX3_moves_9 : decode cX3_moves 9 = .ok (.ireturn, 1) := dk_172 (dk_at dksX3_moves_0 9 rfl rfl)
theorem dX3_moves_10 : decode cX3_moves 10 = .ok (.iload_n 2, 1) := dk_28 (dk_at dksX3_moves_0 10 rfl rfl)
theorem dX3_moves_11 : decode cX3_moves 11 = .ok (.iload_n 3, 1) := dk_29 (dk_at dksX3_moves_0 11 rfl rfl)
theorem dX3_moves_12 : decode cX3_moves 12 = .ok (.invokestatic 126, 3) := dk_184 0 126 (dk_at dksX3_moves_0 12 rfl rfl)
theorem dX3_moves_15 : decode cX3_moves 15 = .ok (.ifCond .ne 6, 3) := dk_154 0 6 (dk_at dksX3_moves_0 15 rfl rfl)
theorem dX3_moves_18 : decode cX3_moves 18 = .ok (.bipush (-2), 2) := dk_16 254 (dk_at dksX3_moves_0 18 rfl rfl)
theorem dX3_moves_20 : decode cX3_moves 20 = .ok (.ireturn, 1) := dk_172 (dk_at dksX3_moves_0 20 rfl rfl)
theorem dX3_moves_21 : decode cX3_moves 21 = .ok (.aload_n 0, 1) := dk_42 (dk_at dksX3_moves_0 21 rfl rfl)
theorem dX3_moves_22 : decode cX3_moves 22 = .ok (.iload_n 2, 1) := dk_28 (dk_at dksX3_moves_0 22 rfl rfl)
theorem dX3_moves_23 : decode cX3_moves 23 = .ok (.iload_n 3, 1) := dk_29 (dk_at dksX3_moves_0 23 rfl rfl)
theorem dX3_moves_24 : decode cX3_moves 24 = .ok (.invokevirtual 136, 3) := dk_182 0 136 (dk_at dksX3_moves_1 0 rfl rfl)
theorem dX3_moves_27 : decode cX3_moves 27 = .ok (.iconst (-1), 1) := dk_2 (dk_at dksX3_moves_1 3 rfl rfl)
theorem dX3_moves_28 : decode cX3_moves 28 = .ok (.if_icmp .eq 15, 3) := dk_159 0 15 (dk_at dksX3_moves_1 4 rfl rfl)
theorem dX3_moves_31 : decode cX3_moves 31 = .ok (.aload_n 0, 1) := dk_42 (dk_at dksX3_moves_1 7 rfl rfl)
theorem dX3_moves_32 : decode cX3_moves 32 = .ok (.iconst 2, 1) := dk_5 (dk_at dksX3_moves_1 8 rfl rfl)
theorem dX3_moves_33 : decode cX3_moves 33 = .ok (.aload_n 0, 1) := dk_42 (dk_at dksX3_moves_1 9 rfl rfl)
theorem dX3_moves_34 : decode cX3_moves 34 = .ok (.iload_n 2, 1) := dk_28 (dk_at dksX3_moves_1 10 rfl rfl)
theorem dX3_moves_35 : decode cX3_moves 35 = .ok (.iload_n 3, 1) := dk_29 (dk_at dksX3_moves_1 11 rfl rfl)
theorem dX3_moves_36 : decode cX3_moves 36 = .ok (.invokevirtual 136, 3) := dk_182 0 136 (dk_at dksX3_moves_1 12 rfl rfl)
theorem dX3_moves_39 : decode cX3_moves 39 = .ok (.invokevirtual 130, 3) := dk_182 0 130 (dk_at dksX3_moves_1 15 rfl rfl)
theorem dX3_moves_42 : decode cX3_moves 42 = .ok (.ireturn, 1) := dk_172 (dk_at dksX3_moves_1 18 rfl rfl)
theorem dX3_moves_43 : decode cX3_moves 43 = .ok (.aload_n 0, 1) := dk_42 (dk_at dksX3_moves_1 19 rfl rfl)
theorem dX3_moves_44 : decode cX3_moves 44 = .ok (.iload_n 2, 1) := dk_28 (dk_at dksX3_moves_1 20 rfl rfl)
theorem dX3_moves_45 : decode cX3_moves 45 = .ok (.iload_n 3, 1) := dk_29 (dk_at dksX3_moves_1 21 rfl rfl)
theorem dX3_moves_46 : decode cX3_moves 46 = .ok (.iload_n 1, 1) := dk_27 (dk_at dksX3_moves_1 22 rfl rfl)
theorem dX3_moves_47 : decode cX3_moves 47 = .ok (.invokevirtual 85, 3) := dk_182 0 85 (dk_at dksX3_moves_2 0 rfl rfl)
theorem dX3_moves_50 : decode cX3_moves 50 = .ok (.istore 4, 2) := dk_54 4 (dk_at dksX3_moves_2 3 rfl rfl)
theorem dX3_moves_52 : decode cX3_moves 52 = .ok (.aload_n 0, 1) := dk_42 (dk_at dksX3_moves_2 5 rfl rfl)
theorem dX3_moves_53 : decode cX3_moves 53 = .ok (.getfield 7, 3) := dk_180 0 7 (dk_at dksX3_moves_2 6 rfl rfl)
theorem dX3_moves_56 : decode cX3_moves 56 = .ok (.bipush 81, 2) := dk_16 81 (dk_at dksX3_moves_2 9 rfl rfl)
theorem dX3_moves_58 : decode cX3_moves 58 = .ok (.iload_n 1, 1) := dk_27 (dk_at dksX3_moves_2 11 rfl rfl)
theorem dX3_moves_59 : decode cX3_moves 59 = .ok (.iadd, 1) := dk_96 (dk_at dksX3_moves_2 12 rfl rfl)
theorem dX3_moves_60 : decode cX3_moves 60 = .ok (.iload_n 2, 1) := dk_28 (dk_at dksX3_moves_2 13 rfl rfl)
theorem dX3_moves_61 : decode cX3_moves 61 = .ok (.iastore, 1) := dk_79 (dk_at dksX3_moves_2 14 rfl rfl)
theorem dX3_moves_62 : decode cX3_moves 62 = .ok (.aload_n 0, 1) := dk_42 (dk_at dksX3_moves_2 15 rfl rfl)
theorem dX3_moves_63 : decode cX3_moves 63 = .ok (.getfield 7, 3) := dk_180 0 7 (dk_at dksX3_moves_2 16 rfl rfl)
theorem dX3_moves_66 : decode cX3_moves 66 = .ok (.bipush 87, 2) := dk_16 87 (dk_at dksX3_moves_2 19 rfl rfl)
theorem dX3_moves_68 : decode cX3_moves 68 = .ok (.iload_n 1, 1) := dk_27 (dk_at dksX3_moves_2 21 rfl rfl)
theorem dX3_moves_69 : decode cX3_moves 69 = .ok (.iadd, 1) := dk_96 (dk_at dksX3_moves_2 22 rfl rfl)
theorem dX3_moves_70 : decode cX3_moves 70 = .ok (.iload_n 3, 1) := dk_29 (dk_at dksX3_moves_2 23 rfl rfl)
theorem dX3_moves_71 : decode cX3_moves 71 = .ok (.iastore, 1) := dk_79 (dk_at dksX3_moves_3 0 rfl rfl)
theorem dX3_moves_72 : decode cX3_moves 72 = .ok (.aload_n 0, 1) := dk_42 (dk_at dksX3_moves_3 1 rfl rfl)
theorem dX3_moves_73 : decode cX3_moves 73 = .ok (.iload 4, 2) := dk_21 4 (dk_at dksX3_moves_3 2 rfl rfl)
theorem dX3_moves_75 : decode cX3_moves 75 = .ok (.invokevirtual 133, 3) := dk_182 0 133 (dk_at dksX3_moves_3 4 rfl rfl)
theorem dX3_moves_78 : decode cX3_moves 78 = .ok (.ireturn, 1) := dk_172 (dk_at dksX3_moves_3 7 rfl rfl)
abbrev cX3_weigh : ByteArray := prog_14_method_49_code
def yX3_weigh : MethodName := ⟨RX3, "weigh", "(II)I"⟩
def dkwX3_weigh_0 : List UInt8 := [42, 182, 0, 149, 42, 42, 27, 28, 182, 0, 170, 6, 182, 0, 155, 172]
abbrev dktX3_weigh_0 : List UInt8 := dkwX3_weigh_0 ++ []
theorem dksX3_weigh_0 : cX3_weigh.data.toList.drop 0 = dktX3_weigh_0 := by decide +kernel
theorem dX3_weigh_0 : decode cX3_weigh 0 = .ok (.aload_n 0, 1) := dk_42 (dk_at dksX3_weigh_0 0 rfl rfl)
theorem dX3_weigh_1 : decode cX3_weigh 1 = .ok (.invokevirtual 149, 3) := dk_182 0 149 (dk_at dksX3_weigh_0 1 rfl rfl)
theorem dX3_weigh_4 : decode cX3_weigh 4 = .ok (.aload_n 0, 1) := dk_42 (dk_at dksX3_weigh_0 4 rfl rfl)
theorem dX3_weigh_5 : decode cX3_weigh 5 = .ok (.aload_n 0, 1) := dk_42 (dk_at dksX3_weigh_0 5 rfl rfl)
theorem dX3_weigh_6 : decode cX3_weigh 6 = .ok (.iload_n 1, 1) := dk_27 (dk_at dksX3_weigh_0 6 rfl rfl)
theorem dX3_weigh_7 : decode cX3_weigh 7 = .ok (.iload_n 2, 1) := dk_28 (dk_at dksX3_weigh_0 7 rfl rfl)
theorem dX3_weigh_8 : decode cX3_weigh 8 = .ok (.invokevirtual 170, 3) := dk_182 0 170 (dk_at dksX3_weigh_0 8 rfl rfl)
theorem dX3_weigh_11 : decode cX3_weigh 11 = .ok (.iconst 3, 1) := dk_6 (dk_at dksX3_weigh_0 11 rfl rfl)
theorem dX3_weigh_12 : decode cX3_weigh 12 = .ok (.invokevirtual 155, 3) := dk_182 0 155 (dk_at dksX3_weigh_0 12 rfl rfl)
theorem dX3_weigh_15 : decode cX3_weigh 15 = .ok (.ireturn, 1) := dk_172 (dk_at dksX3_weigh_0 15 rfl rfl)
abbrev cX3_weighs : ByteArray := prog_14_method_38_code
def yX3_weighs : MethodName := ⟨RX3, "weighs", "(II)I"⟩
def dkwX3_weighs_2 : List UInt8 := [180, 0, 7, 16, 45, 27, 96, 28, 79, 42, 29, 182, 0, 133, 172]
abbrev dktX3_weighs_2 : List UInt8 := dkwX3_weighs_2 ++ []
def dkwX3_weighs_1 : List UInt8 := [180, 0, 7, 16, 45, 27, 96, 46, 62, 29, 28, 160, 0, 11, 42, 16, 7, 28, 182, 0, 130, 172, 42]
abbrev dktX3_weighs_1 : List UInt8 := dkwX3_weighs_1 ++ dktX3_weighs_2
def dkwX3_weighs_0 : List UInt8 := [42, 27, 182, 0, 139, 154, 0, 5, 2, 172, 28, 4, 16, 9, 184, 0, 78, 154, 0, 6, 16, 254, 172, 42]
abbrev dktX3_weighs_0 : List UInt8 := dkwX3_weighs_0 ++ dktX3_weighs_1
theorem dksX3_weighs_0 : cX3_weighs.data.toList.drop 0 = dktX3_weighs_0 := by decide +kernel
theorem dksX3_weighs_1 : cX3_weighs.data.toList.drop 24 = dktX3_weighs_1 := dk_seg dksX3_weighs_0 24 rfl rfl
theorem dksX3_weighs_2 : cX3_weighs.data.toList.drop 47 = dktX3_weighs_2 := dk_seg dksX3_weighs_1 23 rfl rfl
theorem dX3_weighs_0 : decode cX3_weighs 0 = .ok (.aload_n 0, 1) := dk_42 (dk_at dksX3_weighs_0 0 rfl rfl)
theorem dX3_weighs_1 : decode cX3_weighs 1 = .ok (.iload_n 1, 1) := dk_27 (dk_at dksX3_weighs_0 1 rfl rfl)
theorem dX3_weighs_2 : decode cX3_weighs 2 = .ok (.invokevirtual 139, 3) := dk_182 0 139 (dk_at dksX3_weighs_0 2 rfl rfl)
theorem dX3_weighs_5 : decode cX3_weighs 5 = .ok (.ifCond .ne 5, 3) := dk_154 0 5 (dk_at dksX3_weighs_0 5 rfl rfl)
theorem dX3_weighs_8 : decode cX3_weighs 8 = .ok (.iconst (-1), 1) := dk_2 (dk_at dksX3_weighs_0 8 rfl rfl)
theorem dX3_weighs_9 : decode cX3_weighs 9 = .ok (.ireturn, 1) := dk_172 (dk_at dksX3_weighs_0 9 rfl rfl)
theorem dX3_weighs_10 : decode cX3_weighs 10 = .ok (.iload_n 2, 1) := dk_28 (dk_at dksX3_weighs_0 10 rfl rfl)
theorem dX3_weighs_11 : decode cX3_weighs 11 = .ok (.iconst 1, 1) := dk_4 (dk_at dksX3_weighs_0 11 rfl rfl)
theorem dX3_weighs_12 : decode cX3_weighs 12 = .ok (.bipush 9, 2) := dk_16 9 (dk_at dksX3_weighs_0 12 rfl rfl)
theorem dX3_weighs_14 : decode cX3_weighs 14 = .ok (.invokestatic 78, 3) := dk_184 0 78 (dk_at dksX3_weighs_0 14 rfl rfl)
theorem dX3_weighs_17 : decode cX3_weighs 17 = .ok (.ifCond .ne 6, 3) := dk_154 0 6 (dk_at dksX3_weighs_0 17 rfl rfl)
theorem dX3_weighs_20 : decode cX3_weighs 20 = .ok (.bipush (-2), 2) := dk_16 254 (dk_at dksX3_weighs_0 20 rfl rfl)
theorem dX3_weighs_22 : decode cX3_weighs 22 = .ok (.ireturn, 1) := dk_172 (dk_at dksX3_weighs_0 22 rfl rfl)
theorem dX3_weighs_23 : decode cX3_weighs 23 = .ok (.aload_n 0, 1) := dk_42 (dk_at dksX3_weighs_0 23 rfl rfl)
theorem dX3_weighs_24 : decode cX3_weighs 24 = .ok (.getfield 7, 3) := dk_180 0 7 (dk_at dksX3_weighs_1 0 rfl rfl)
theorem dX3_weighs_27 : decode cX3_weighs 27 = .ok (.bipush 45, 2) := dk_16 45 (dk_at dksX3_weighs_1 3 rfl rfl)
theorem dX3_weighs_29 : decode cX3_weighs 29 = .ok (.iload_n 1, 1) := dk_27 (dk_at dksX3_weighs_1 5 rfl rfl)
theorem dX3_weighs_30 : decode cX3_weighs 30 = .ok (.iadd, 1) := dk_96 (dk_at dksX3_weighs_1 6 rfl rfl)
theorem dX3_weighs_31 : decode cX3_weighs 31 = .ok (.iaload, 1) := dk_46 (dk_at dksX3_weighs_1 7 rfl rfl)
theorem dX3_weighs_32 : decode cX3_weighs 32 = .ok (.istore_n 3, 1) := dk_62 (dk_at dksX3_weighs_1 8 rfl rfl)
theorem dX3_weighs_33 : decode cX3_weighs 33 = .ok (.iload_n 3, 1) := dk_29 (dk_at dksX3_weighs_1 9 rfl rfl)
theorem dX3_weighs_34 : decode cX3_weighs 34 = .ok (.iload_n 2, 1) := dk_28 (dk_at dksX3_weighs_1 10 rfl rfl)
theorem dX3_weighs_35 : decode cX3_weighs 35 = .ok (.if_icmp .ne 11, 3) := dk_160 0 11 (dk_at dksX3_weighs_1 11 rfl rfl)
theorem dX3_weighs_38 : decode cX3_weighs 38 = .ok (.aload_n 0, 1) := dk_42 (dk_at dksX3_weighs_1 14 rfl rfl)
theorem dX3_weighs_39 : decode cX3_weighs 39 = .ok (.bipush 7, 2) := dk_16 7 (dk_at dksX3_weighs_1 15 rfl rfl)
theorem dX3_weighs_41 : decode cX3_weighs 41 = .ok (.iload_n 2, 1) := dk_28 (dk_at dksX3_weighs_1 17 rfl rfl)
theorem dX3_weighs_42 : decode cX3_weighs 42 = .ok (.invokevirtual 130, 3) := dk_182 0 130 (dk_at dksX3_weighs_1 18 rfl rfl)
theorem dX3_weighs_45 : decode cX3_weighs 45 = .ok (.ireturn, 1) := dk_172 (dk_at dksX3_weighs_1 21 rfl rfl)
theorem dX3_weighs_46 : decode cX3_weighs 46 = .ok (.aload_n 0, 1) := dk_42 (dk_at dksX3_weighs_1 22 rfl rfl)
theorem dX3_weighs_47 : decode cX3_weighs 47 = .ok (.getfield 7, 3) := dk_180 0 7 (dk_at dksX3_weighs_2 0 rfl rfl)
theorem dX3_weighs_50 : decode cX3_weighs 50 = .ok (.bipush 45, 2) := dk_16 45 (dk_at dksX3_weighs_2 3 rfl rfl)
theorem dX3_weighs_52 : decode cX3_weighs 52 = .ok (.iload_n 1, 1) := dk_27 (dk_at dksX3_weighs_2 5 rfl rfl)
theorem dX3_weighs_53 : decode cX3_weighs 53 = .ok (.iadd, 1) := dk_96 (dk_at dksX3_weighs_2 6 rfl rfl)
theorem dX3_weighs_54 : decode cX3_weighs 54 = .ok (.iload_n 2, 1) := dk_28 (dk_at dksX3_weighs_2 7 rfl rfl)
theorem dX3_weighs_55 : decode cX3_weighs 55 = .ok (.iastore, 1) := dk_79 (dk_at dksX3_weighs_2 8 rfl rfl)
theorem dX3_weighs_56 : decode cX3_weighs 56 = .ok (.aload_n 0, 1) := dk_42 (dk_at dksX3_weighs_2 9 rfl rfl)
theorem dX3_weighs_57 : decode cX3_weighs 57 = .ok (.iload_n 3, 1) := dk_29 (dk_at dksX3_weighs_2 10 rfl rfl)
theorem dX3_weighs_58 : decode cX3_weighs 58 = .ok (.invokevirtual 133, 3) := dk_182 0 133 (dk_at dksX3_weighs_2 11 rfl rfl)
theorem dX3_weighs_61 : decode cX3_weighs 61 = .ok (.ireturn, 1) := dk_172 (dk_at dksX3_weighs_2 14 rfl rfl)
abbrev cX3_sheepOf : ByteArray := prog_14_method_50_code
def yX3_sheepOf : MethodName := ⟨RX3, "sheepOf", "(II)I"⟩
def dkwX3_sheepOf_6 : List UInt8 := [182, 0, 69, 172]
abbrev dktX3_sheepOf_6 : List UInt8 := dkwX3_sheepOf_6 ++ []
def dkwX3_sheepOf_5 : List UInt8 := [42, 27, 182, 0, 99, 172, 42, 27, 182, 0, 102, 153, 0, 7, 4, 167, 0, 4, 3, 172, 42, 5]
abbrev dktX3_sheepOf_5 : List UInt8 := dkwX3_sheepOf_5 ++ dktX3_sheepOf_6
def dkwX3_sheepOf_4 : List UInt8 := [16, 45, 27, 96, 46, 172, 29, 172, 29, 2, 160, 0, 7, 2, 167, 0, 9, 42, 27, 29, 182, 0, 93, 172]
abbrev dktX3_sheepOf_4 : List UInt8 := dkwX3_sheepOf_4 ++ dktX3_sheepOf_5
def dkwX3_sheepOf_3 : List UInt8 := [42, 180, 0, 7, 16, 9, 27, 96, 46, 172, 42, 180, 0, 7, 16, 27, 27, 96, 46, 172, 42, 180, 0, 7]
abbrev dktX3_sheepOf_3 : List UInt8 := dkwX3_sheepOf_3 ++ dktX3_sheepOf_4
def dkwX3_sheepOf_2 : List UInt8 := [170, 0, 0, 0, 0, 0, 111, 0, 0, 0, 0, 0, 0, 0, 6, 0, 0, 0, 43, 0, 0, 0, 53, 0, 0, 0, 63, 0, 0, 0, 73, 0, 0, 0, 75, 0, 0, 0, 91, 0, 0, 0, 97]
abbrev dktX3_sheepOf_2 : List UInt8 := dkwX3_sheepOf_2 ++ dktX3_sheepOf_3
def dkwX3_sheepOf_1 : List UInt8 := [3, 172, 42, 180, 0, 7, 16, 63, 27, 96, 46, 62, 28]
abbrev dktX3_sheepOf_1 : List UInt8 := dkwX3_sheepOf_1 ++ dktX3_sheepOf_2
def dkwX3_sheepOf_0 : List UInt8 := [42, 42, 27, 182, 0, 139, 153, 0, 7, 3, 167, 0, 4, 4, 181, 0, 53, 42, 180, 0, 53, 158, 0, 5]
abbrev dktX3_sheepOf_0 : List UInt8 := dkwX3_sheepOf_0 ++ dktX3_sheepOf_1
theorem dksX3_sheepOf_0 : cX3_sheepOf.data.toList.drop 0 = dktX3_sheepOf_0 := by decide +kernel
theorem dksX3_sheepOf_1 : cX3_sheepOf.data.toList.drop 24 = dktX3_sheepOf_1 := dk_seg dksX3_sheepOf_0 24 rfl rfl
theorem dksX3_sheepOf_2 : cX3_sheepOf.data.toList.drop 37 = dktX3_sheepOf_2 := dk_seg dksX3_sheepOf_1 13 rfl rfl
theorem dksX3_sheepOf_3 : cX3_sheepOf.data.toList.drop 80 = dktX3_sheepOf_3 := dk_seg dksX3_sheepOf_2 43 rfl rfl
theorem dksX3_sheepOf_4 : cX3_sheepOf.data.toList.drop 104 = dktX3_sheepOf_4 := dk_seg dksX3_sheepOf_3 24 rfl rfl
theorem dksX3_sheepOf_5 : cX3_sheepOf.data.toList.drop 128 = dktX3_sheepOf_5 := dk_seg dksX3_sheepOf_4 24 rfl rfl
theorem dksX3_sheepOf_6 : cX3_sheepOf.data.toList.drop 150 = dktX3_sheepOf_6 := dk_seg dksX3_sheepOf_5 22 rfl rfl
theorem dX3_sheepOf_0 : decode cX3_sheepOf 0 = .ok (.aload_n 0, 1) := dk_42 (dk_at dksX3_sheepOf_0 0 rfl rfl)
theorem dX3_sheepOf_1 : decode cX3_sheepOf 1 = .ok (.aload_n 0, 1) := dk_42 (dk_at dksX3_sheepOf_0 1 rfl rfl)
theorem dX3_sheepOf_2 : decode cX3_sheepOf 2 = .ok (.iload_n 1, 1) := dk_27 (dk_at dksX3_sheepOf_0 2 rfl rfl)
theorem dX3_sheepOf_3 : decode cX3_sheepOf 3 = .ok (.invokevirtual 139, 3) := dk_182 0 139 (dk_at dksX3_sheepOf_0 3 rfl rfl)
theorem dX3_sheepOf_6 : decode cX3_sheepOf 6 = .ok (.ifCond .eq 7, 3) := dk_153 0 7 (dk_at dksX3_sheepOf_0 6 rfl rfl)
theorem dX3_sheepOf_9 : decode cX3_sheepOf 9 = .ok (.iconst 0, 1) := dk_3 (dk_at dksX3_sheepOf_0 9 rfl rfl)
theorem dX3_sheepOf_10 : decode cX3_sheepOf 10 = .ok (.goto 4, 3) := dk_167 0 4 (dk_at dksX3_sheepOf_0 10 rfl rfl)
theorem dX3_sheepOf_13 : decode cX3_sheepOf 13 = .ok (.iconst 1, 1) := dk_4 (dk_at dksX3_sheepOf_0 13 rfl rfl)
theorem dX3_sheepOf_14 : decode cX3_sheepOf 14 = .ok (.putfield 53, 3) := dk_181 0 53 (dk_at dksX3_sheepOf_0 14 rfl rfl)
theorem dX3_sheepOf_17 : decode cX3_sheepOf 17 = .ok (.aload_n 0, 1) := dk_42 (dk_at dksX3_sheepOf_0 17 rfl rfl)
theorem dX3_sheepOf_18 : decode cX3_sheepOf 18 = .ok (.getfield 53, 3) := dk_180 0 53 (dk_at dksX3_sheepOf_0 18 rfl rfl)
theorem dX3_sheepOf_21 : decode cX3_sheepOf 21 = .ok (.ifCond .le 5, 3) := dk_158 0 5 (dk_at dksX3_sheepOf_0 21 rfl rfl)
theorem dX3_sheepOf_24 : decode cX3_sheepOf 24 = .ok (.iconst 0, 1) := dk_3 (dk_at dksX3_sheepOf_1 0 rfl rfl)
theorem dX3_sheepOf_25 : decode cX3_sheepOf 25 = .ok (.ireturn, 1) := dk_172 (dk_at dksX3_sheepOf_1 1 rfl rfl)
theorem dX3_sheepOf_26 : decode cX3_sheepOf 26 = .ok (.aload_n 0, 1) := dk_42 (dk_at dksX3_sheepOf_1 2 rfl rfl)
theorem dX3_sheepOf_27 : decode cX3_sheepOf 27 = .ok (.getfield 7, 3) := dk_180 0 7 (dk_at dksX3_sheepOf_1 3 rfl rfl)
theorem dX3_sheepOf_30 : decode cX3_sheepOf 30 = .ok (.bipush 63, 2) := dk_16 63 (dk_at dksX3_sheepOf_1 6 rfl rfl)
theorem dX3_sheepOf_32 : decode cX3_sheepOf 32 = .ok (.iload_n 1, 1) := dk_27 (dk_at dksX3_sheepOf_1 8 rfl rfl)
theorem dX3_sheepOf_33 : decode cX3_sheepOf 33 = .ok (.iadd, 1) := dk_96 (dk_at dksX3_sheepOf_1 9 rfl rfl)
theorem dX3_sheepOf_34 : decode cX3_sheepOf 34 = .ok (.iaload, 1) := dk_46 (dk_at dksX3_sheepOf_1 10 rfl rfl)
theorem dX3_sheepOf_35 : decode cX3_sheepOf 35 = .ok (.istore_n 3, 1) := dk_62 (dk_at dksX3_sheepOf_1 11 rfl rfl)
theorem dX3_sheepOf_36 : decode cX3_sheepOf 36 = .ok (.iload_n 2, 1) := dk_28 (dk_at dksX3_sheepOf_1 12 rfl rfl)
theorem dX3_sheepOf_37 : decode cX3_sheepOf 37 = .ok (.tableswitch 111 0 6 #[43, 53, 63, 73, 75, 91, 97], 43) := by decide +kernel
theorem dX3_sheepOf_80 : decode cX3_sheepOf 80 = .ok (.aload_n 0, 1) := dk_42 (dk_at dksX3_sheepOf_3 0 rfl rfl)
theorem dX3_sheepOf_81 : decode cX3_sheepOf 81 = .ok (.getfield 7, 3) := dk_180 0 7 (dk_at dksX3_sheepOf_3 1 rfl rfl)
theorem dX3_sheepOf_84 : decode cX3_sheepOf 84 = .ok (.bipush 9, 2) := dk_16 9 (dk_at dksX3_sheepOf_3 4 rfl rfl)
theorem dX3_sheepOf_86 : decode cX3_sheepOf 86 = .ok (.iload_n 1, 1) := dk_27 (dk_at dksX3_sheepOf_3 6 rfl rfl)
theorem dX3_sheepOf_87 : decode cX3_sheepOf 87 = .ok (.iadd, 1) := dk_96 (dk_at dksX3_sheepOf_3 7 rfl rfl)
theorem dX3_sheepOf_88 : decode cX3_sheepOf 88 = .ok (.iaload, 1) := dk_46 (dk_at dksX3_sheepOf_3 8 rfl rfl)
theorem dX3_sheepOf_89 : decode cX3_sheepOf 89 = .ok (.ireturn, 1) := dk_172 (dk_at dksX3_sheepOf_3 9 rfl rfl)
theorem dX3_sheepOf_90 : decode cX3_sheepOf 90 = .ok (.aload_n 0, 1) := dk_42 (dk_at dksX3_sheepOf_3 10 rfl rfl)
theorem dX3_sheepOf_91 : decode cX3_sheepOf 91 = .ok (.getfield 7, 3) := dk_180 0 7 (dk_at dksX3_sheepOf_3 11 rfl rfl)
theorem dX3_sheepOf_94 : decode cX3_sheepOf 94 = .ok (.bipush 27, 2) := dk_16 27 (dk_at dksX3_sheepOf_3 14 rfl rfl)
theorem dX3_sheepOf_96 : decode cX3_sheepOf 96 = .ok (.iload_n 1, 1) := dk_27 (dk_at dksX3_sheepOf_3 16 rfl rfl)
theorem dX3_sheepOf_97 : decode cX3_sheepOf 97 = .ok (.iadd, 1) := dk_96 (dk_at dksX3_sheepOf_3 17 rfl rfl)
theorem dX3_sheepOf_98 : decode cX3_sheepOf 98 = .ok (.iaload, 1) := dk_46 (dk_at dksX3_sheepOf_3 18 rfl rfl)
theorem dX3_sheepOf_99 : decode cX3_sheepOf 99 = .ok (.ireturn, 1) := dk_172 (dk_at dksX3_sheepOf_3 19 rfl rfl)
theorem dX3_sheepOf_100 : decode cX3_sheepOf 100 = .ok (.aload_n 0, 1) := dk_42 (dk_at dksX3_sheepOf_3 20 rfl rfl)
theorem dX3_sheepOf_101 : decode cX3_sheepOf 101 = .ok (.getfield 7, 3) := dk_180 0 7 (dk_at dksX3_sheepOf_3 21 rfl rfl)
theorem dX3_sheepOf_104 : decode cX3_sheepOf 104 = .ok (.bipush 45, 2) := dk_16 45 (dk_at dksX3_sheepOf_4 0 rfl rfl)
theorem dX3_sheepOf_106 : decode cX3_sheepOf 106 = .ok (.iload_n 1, 1) := dk_27 (dk_at dksX3_sheepOf_4 2 rfl rfl)
theorem dX3_sheepOf_107 : decode cX3_sheepOf 107 = .ok (.iadd, 1) := dk_96 (dk_at dksX3_sheepOf_4 3 rfl rfl)
theorem dX3_sheepOf_108 : decode cX3_sheepOf 108 = .ok (.iaload, 1) := dk_46 (dk_at dksX3_sheepOf_4 4 rfl rfl)
theorem dX3_sheepOf_109 : decode cX3_sheepOf 109 = .ok (.ireturn, 1) := dk_172 (dk_at dksX3_sheepOf_4 5 rfl rfl)
theorem dX3_sheepOf_110 : decode cX3_sheepOf 110 = .ok (.iload_n 3, 1) := dk_29 (dk_at dksX3_sheepOf_4 6 rfl rfl)
theorem dX3_sheepOf_111 : decode cX3_sheepOf 111 = .ok (.ireturn, 1) := dk_172 (dk_at dksX3_sheepOf_4 7 rfl rfl)
theorem dX3_sheepOf_112 : decode cX3_sheepOf 112 = .ok (.iload_n 3, 1) := dk_29 (dk_at dksX3_sheepOf_4 8 rfl rfl)
theorem dX3_sheepOf_113 : decode cX3_sheepOf 113 = .ok (.iconst (-1), 1) := dk_2 (dk_at dksX3_sheepOf_4 9 rfl rfl)
theorem dX3_sheepOf_114 : decode cX3_sheepOf 114 = .ok (.if_icmp .ne 7, 3) := dk_160 0 7 (dk_at dksX3_sheepOf_4 10 rfl rfl)
theorem dX3_sheepOf_117 : decode cX3_sheepOf 117 = .ok (.iconst (-1), 1) := dk_2 (dk_at dksX3_sheepOf_4 13 rfl rfl)
theorem dX3_sheepOf_118 : decode cX3_sheepOf 118 = .ok (.goto 9, 3) := dk_167 0 9 (dk_at dksX3_sheepOf_4 14 rfl rfl)
theorem dX3_sheepOf_121 : decode cX3_sheepOf 121 = .ok (.aload_n 0, 1) := dk_42 (dk_at dksX3_sheepOf_4 17 rfl rfl)
theorem dX3_sheepOf_122 : decode cX3_sheepOf 122 = .ok (.iload_n 1, 1) := dk_27 (dk_at dksX3_sheepOf_4 18 rfl rfl)
theorem dX3_sheepOf_123 : decode cX3_sheepOf 123 = .ok (.iload_n 3, 1) := dk_29 (dk_at dksX3_sheepOf_4 19 rfl rfl)
theorem dX3_sheepOf_124 : decode cX3_sheepOf 124 = .ok (.invokevirtual 93, 3) := dk_182 0 93 (dk_at dksX3_sheepOf_4 20 rfl rfl)
theorem dX3_sheepOf_127 : decode cX3_sheepOf 127 = .ok (.ireturn, 1) := dk_172 (dk_at dksX3_sheepOf_4 23 rfl rfl)
theorem dX3_sheepOf_128 : decode cX3_sheepOf 128 = .ok (.aload_n 0, 1) := dk_42 (dk_at dksX3_sheepOf_5 0 rfl rfl)
theorem dX3_sheepOf_129 : decode cX3_sheepOf 129 = .ok (.iload_n 1, 1) := dk_27 (dk_at dksX3_sheepOf_5 1 rfl rfl)
theorem dX3_sheepOf_130 : decode cX3_sheepOf 130 = .ok (.invokevirtual 99, 3) := dk_182 0 99 (dk_at dksX3_sheepOf_5 2 rfl rfl)
theorem dX3_sheepOf_133 : decode cX3_sheepOf 133 = .ok (.ireturn, 1) := dk_172 (dk_at dksX3_sheepOf_5 5 rfl rfl)
theorem dX3_sheepOf_134 : decode cX3_sheepOf 134 = .ok (.aload_n 0, 1) := dk_42 (dk_at dksX3_sheepOf_5 6 rfl rfl)
theorem dX3_sheepOf_135 : decode cX3_sheepOf 135 = .ok (.iload_n 1, 1) := dk_27 (dk_at dksX3_sheepOf_5 7 rfl rfl)
theorem dX3_sheepOf_136 : decode cX3_sheepOf 136 = .ok (.invokevirtual 102, 3) := dk_182 0 102 (dk_at dksX3_sheepOf_5 8 rfl rfl)
theorem dX3_sheepOf_139 : decode cX3_sheepOf 139 = .ok (.ifCond .eq 7, 3) := dk_153 0 7 (dk_at dksX3_sheepOf_5 11 rfl rfl)
theorem dX3_sheepOf_142 : decode cX3_sheepOf 142 = .ok (.iconst 1, 1) := dk_4 (dk_at dksX3_sheepOf_5 14 rfl rfl)
theorem dX3_sheepOf_143 : decode cX3_sheepOf 143 = .ok (.goto 4, 3) := dk_167 0 4 (dk_at dksX3_sheepOf_5 15 rfl rfl)
theorem dX3_sheepOf_146 : decode cX3_sheepOf 146 = .ok (.iconst 0, 1) := dk_3 (dk_at dksX3_sheepOf_5 18 rfl rfl)
theorem dX3_sheepOf_147 : decode cX3_sheepOf 147 = .ok (.ireturn, 1) := dk_172 (dk_at dksX3_sheepOf_5 19 rfl rfl)
theorem dX3_sheepOf_148 : decode cX3_sheepOf 148 = .ok (.aload_n 0, 1) := dk_42 (dk_at dksX3_sheepOf_5 20 rfl rfl)
theorem dX3_sheepOf_149 : decode cX3_sheepOf 149 = .ok (.iconst 2, 1) := dk_5 (dk_at dksX3_sheepOf_5 21 rfl rfl)
theorem dX3_sheepOf_150 : decode cX3_sheepOf 150 = .ok (.invokevirtual 69, 3) := dk_182 0 69 (dk_at dksX3_sheepOf_6 0 rfl rfl)
theorem dX3_sheepOf_153 : decode cX3_sheepOf 153 = .ok (.ireturn, 1) := dk_172 (dk_at dksX3_sheepOf_6 3 rfl rfl)
abbrev cX3_far : ByteArray := prog_14_method_16_code
def yX3_far : MethodName := ⟨RX3, "far", "(II)I"⟩
def dkwX3_far_0 : List UInt8 := [42, 42, 180, 0, 7, 16, 9, 27, 96, 46, 42, 180, 0, 7, 16, 27, 27, 96, 46, 28, 182, 0, 85, 172]
abbrev dktX3_far_0 : List UInt8 := dkwX3_far_0 ++ []
theorem dksX3_far_0 : cX3_far.data.toList.drop 0 = dktX3_far_0 := by decide +kernel
theorem dX3_far_0 : decode cX3_far 0 = .ok (.aload_n 0, 1) := dk_42 (dk_at dksX3_far_0 0 rfl rfl)
theorem dX3_far_1 : decode cX3_far 1 = .ok (.aload_n 0, 1) := dk_42 (dk_at dksX3_far_0 1 rfl rfl)
theorem dX3_far_2 : decode cX3_far 2 = .ok (.getfield 7, 3) := dk_180 0 7 (dk_at dksX3_far_0 2 rfl rfl)
theorem dX3_far_5 : decode cX3_far 5 = .ok (.bipush 9, 2) := dk_16 9 (dk_at dksX3_far_0 5 rfl rfl)
theorem dX3_far_7 : decode cX3_far 7 = .ok (.iload_n 1, 1) := dk_27 (dk_at dksX3_far_0 7 rfl rfl)
theorem dX3_far_8 : decode cX3_far 8 = .ok (.iadd, 1) := dk_96 (dk_at dksX3_far_0 8 rfl rfl)
theorem dX3_far_9 : decode cX3_far 9 = .ok (.iaload, 1) := dk_46 (dk_at dksX3_far_0 9 rfl rfl)
theorem dX3_far_10 : decode cX3_far 10 = .ok (.aload_n 0, 1) := dk_42 (dk_at dksX3_far_0 10 rfl rfl)
theorem dX3_far_11 : decode cX3_far 11 = .ok (.getfield 7, 3) := dk_180 0 7 (dk_at dksX3_far_0 11 rfl rfl)
theorem dX3_far_14 : decode cX3_far 14 = .ok (.bipush 27, 2) := dk_16 27 (dk_at dksX3_far_0 14 rfl rfl)
theorem dX3_far_16 : decode cX3_far 16 = .ok (.iload_n 1, 1) := dk_27 (dk_at dksX3_far_0 16 rfl rfl)
theorem dX3_far_17 : decode cX3_far 17 = .ok (.iadd, 1) := dk_96 (dk_at dksX3_far_0 17 rfl rfl)
theorem dX3_far_18 : decode cX3_far 18 = .ok (.iaload, 1) := dk_46 (dk_at dksX3_far_0 18 rfl rfl)
theorem dX3_far_19 : decode cX3_far 19 = .ok (.iload_n 2, 1) := dk_28 (dk_at dksX3_far_0 19 rfl rfl)
theorem dX3_far_20 : decode cX3_far 20 = .ok (.invokevirtual 85, 3) := dk_182 0 85 (dk_at dksX3_far_0 20 rfl rfl)
theorem dX3_far_23 : decode cX3_far 23 = .ok (.ireturn, 1) := dk_172 (dk_at dksX3_far_0 23 rfl rfl)
abbrev cX3_nearestOf : ByteArray := prog_14_method_18_code
def yX3_nearestOf : MethodName := ⟨RX3, "nearestOf", "(I)I"⟩
def dkwX3_nearestOf_0 : List UInt8 := [42, 42, 180, 0, 7, 16, 9, 27, 96, 46, 42, 180, 0, 7, 16, 27, 27, 96, 46, 182, 0, 89, 172]
abbrev dktX3_nearestOf_0 : List UInt8 := dkwX3_nearestOf_0 ++ []
theorem dksX3_nearestOf_0 : cX3_nearestOf.data.toList.drop 0 = dktX3_nearestOf_0 := by decide +kernel
theorem dX3_nearestOf_0 : decode cX3_nearestOf 0 = .ok (.aload_n 0, 1) := dk_42 (dk_at dksX3_nearestOf_0 0 rfl rfl)
theorem dX3_nearestOf_1 : decode cX3_nearestOf 1 = .ok (.aload_n 0, 1) := dk_42 (dk_at dksX3_nearestOf_0 1 rfl rfl)
theorem dX3_nearestOf_2 : decode cX3_nearestOf 2 = .ok (.getfield 7, 3) := dk_180 0 7 (dk_at dksX3_nearestOf_0 2 rfl rfl)
theorem dX3_nearestOf_5 : decode cX3_nearestOf 5 = .ok (.bipush 9, 2) := dk_16 9 (dk_at dksX3_nearestOf_0 5 rfl rfl)
theorem dX3_nearestOf_7 : decode cX3_nearestOf 7 = .ok (.iload_n 1, 1) := dk_27 (dk_at dksX3_nearestOf_0 7 rfl rfl)
theorem dX3_nearestOf_8 : decode cX3_nearestOf 8 = .ok (.iadd, 1) := dk_96 (dk_at dksX3_nearestOf_0 8 rfl rfl)
theorem dX3_nearestOf_9 : decode cX3_nearestOf 9 = .ok (.iaload, 1) := dk_46 (dk_at dksX3_nearestOf_0 9 rfl rfl)
theorem dX3_nearestOf_10 : decode cX3_nearestOf 10 = .ok (.aload_n 0, 1) := dk_42 (dk_at dksX3_nearestOf_0 10 rfl rfl)
theorem dX3_nearestOf_11 : decode cX3_nearestOf 11 = .ok (.getfield 7, 3) := dk_180 0 7 (dk_at dksX3_nearestOf_0 11 rfl rfl)
theorem dX3_nearestOf_14 : decode cX3_nearestOf 14 = .ok (.bipush 27, 2) := dk_16 27 (dk_at dksX3_nearestOf_0 14 rfl rfl)
theorem dX3_nearestOf_16 : decode cX3_nearestOf 16 = .ok (.iload_n 1, 1) := dk_27 (dk_at dksX3_nearestOf_0 16 rfl rfl)
theorem dX3_nearestOf_17 : decode cX3_nearestOf 17 = .ok (.iadd, 1) := dk_96 (dk_at dksX3_nearestOf_0 17 rfl rfl)
theorem dX3_nearestOf_18 : decode cX3_nearestOf 18 = .ok (.iaload, 1) := dk_46 (dk_at dksX3_nearestOf_0 18 rfl rfl)
theorem dX3_nearestOf_19 : decode cX3_nearestOf 19 = .ok (.invokevirtual 89, 3) := dk_182 0 89 (dk_at dksX3_nearestOf_0 19 rfl rfl)
theorem dX3_nearestOf_22 : decode cX3_nearestOf 22 = .ok (.ireturn, 1) := dk_172 (dk_at dksX3_nearestOf_0 22 rfl rfl)
abbrev cX3_isStray : ByteArray := prog_14_method_23_code
def yX3_isStray : MethodName := ⟨RX3, "isStray", "(I)Z"⟩
def dkwX3_isStray_2 : List UInt8 := [167, 0, 4, 3, 172]
abbrev dktX3_isStray_2 : List UInt8 := dkwX3_isStray_2 ++ []
def dkwX3_isStray_1 : List UInt8 := [159, 0, 22, 42, 27, 42, 27, 182, 0, 99, 182, 0, 93, 42, 27, 28, 182, 0, 93, 162, 0, 7, 4]
abbrev dktX3_isStray_1 : List UInt8 := dkwX3_isStray_1 ++ dktX3_isStray_2
def dkwX3_isStray_0 : List UInt8 := [42, 180, 0, 7, 4, 46, 154, 0, 5, 3, 172, 42, 180, 0, 7, 16, 63, 27, 96, 46, 61, 28, 2]
abbrev dktX3_isStray_0 : List UInt8 := dkwX3_isStray_0 ++ dktX3_isStray_1
theorem dksX3_isStray_0 : cX3_isStray.data.toList.drop 0 = dktX3_isStray_0 := by decide +kernel
theorem dksX3_isStray_1 : cX3_isStray.data.toList.drop 23 = dktX3_isStray_1 := dk_seg dksX3_isStray_0 23 rfl rfl
theorem dksX3_isStray_2 : cX3_isStray.data.toList.drop 46 = dktX3_isStray_2 := dk_seg dksX3_isStray_1 23 rfl rfl
theorem dX3_isStray_0 : decode cX3_isStray 0 = .ok (.aload_n 0, 1) := dk_42 (dk_at dksX3_isStray_0 0 rfl rfl)
theorem dX3_isStray_1 : decode cX3_isStray 1 = .ok (.getfield 7, 3) := dk_180 0 7 (dk_at dksX3_isStray_0 1 rfl rfl)
theorem dX3_isStray_4 : decode cX3_isStray 4 = .ok (.iconst 1, 1) := dk_4 (dk_at dksX3_isStray_0 4 rfl rfl)
theorem dX3_isStray_5 : decode cX3_isStray 5 = .ok (.iaload, 1) := dk_46 (dk_at dksX3_isStray_0 5 rfl rfl)
theorem dX3_isStray_6 : decode cX3_isStray 6 = .ok (.ifCond .ne 5, 3) := dk_154 0 5 (dk_at dksX3_isStray_0 6 rfl rfl)
theorem dX3_isStray_9 : decode cX3_isStray 9 = .ok (.iconst 0, 1) := dk_3 (dk_at dksX3_isStray_0 9 rfl rfl)
theorem dX3_isStray_10 : decode cX3_isStray 10 = .ok (.ireturn, 1) := dk_172 (dk_at dksX3_isStray_0 10 rfl rfl)
theorem dX3_isStray_11 : decode cX3_isStray 11 = .ok (.aload_n 0, 1) := dk_42 (dk_at dksX3_isStray_0 11 rfl rfl)
theorem dX3_isStray_12 : decode cX3_isStray 12 = .ok (.getfield 7, 3) := dk_180 0 7 (dk_at dksX3_isStray_0 12 rfl rfl)
theorem dX3_isStray_15 : decode cX3_isStray 15 = .ok (.bipush 63, 2) := dk_16 63 (dk_at dksX3_isStray_0 15 rfl rfl)
theorem dX3_isStray_17 : decode cX3_isStray 17 = .ok (.iload_n 1, 1) := dk_27 (dk_at dksX3_isStray_0 17 rfl rfl)
theorem dX3_isStray_18 : decode cX3_isStray 18 = .ok (.iadd, 1) := dk_96 (dk_at dksX3_isStray_0 18 rfl rfl)
theorem dX3_isStray_19 : decode cX3_isStray 19 = .ok (.iaload, 1) := dk_46 (dk_at dksX3_isStray_0 19 rfl rfl)
theorem dX3_isStray_20 : decode cX3_isStray 20 = .ok (.istore_n 2, 1) := dk_61 (dk_at dksX3_isStray_0 20 rfl rfl)
theorem dX3_isStray_21 : decode cX3_isStray 21 = .ok (.iload_n 2, 1) := dk_28 (dk_at dksX3_isStray_0 21 rfl rfl)
theorem dX3_isStray_22 : decode cX3_isStray 22 = .ok (.iconst (-1), 1) := dk_2 (dk_at dksX3_isStray_0 22 rfl rfl)
theorem dX3_isStray_23 : decode cX3_isStray 23 = .ok (.if_icmp .eq 22, 3) := dk_159 0 22 (dk_at dksX3_isStray_1 0 rfl rfl)
theorem dX3_isStray_26 : decode cX3_isStray 26 = .ok (.aload_n 0, 1) := dk_42 (dk_at dksX3_isStray_1 3 rfl rfl)
theorem dX3_isStray_27 : decode cX3_isStray 27 = .ok (.iload_n 1, 1) := dk_27 (dk_at dksX3_isStray_1 4 rfl rfl)
theorem dX3_isStray_28 : decode cX3_isStray 28 = .ok (.aload_n 0, 1) := dk_42 (dk_at dksX3_isStray_1 5 rfl rfl)
theorem dX3_isStray_29 : decode cX3_isStray 29 = .ok (.iload_n 1, 1) := dk_27 (dk_at dksX3_isStray_1 6 rfl rfl)
theorem dX3_isStray_30 : decode cX3_isStray 30 = .ok (.invokevirtual 99, 3) := dk_182 0 99 (dk_at dksX3_isStray_1 7 rfl rfl)
theorem dX3_isStray_33 : decode cX3_isStray 33 = .ok (.invokevirtual 93, 3) := dk_182 0 93 (dk_at dksX3_isStray_1 10 rfl rfl)
theorem dX3_isStray_36 : decode cX3_isStray 36 = .ok (.aload_n 0, 1) := dk_42 (dk_at dksX3_isStray_1 13 rfl rfl)
theorem dX3_isStray_37 : decode cX3_isStray 37 = .ok (.iload_n 1, 1) := dk_27 (dk_at dksX3_isStray_1 14 rfl rfl)
theorem dX3_isStray_38 : decode cX3_isStray 38 = .ok (.iload_n 2, 1) := dk_28 (dk_at dksX3_isStray_1 15 rfl rfl)
theorem dX3_isStray_39 : decode cX3_isStray 39 = .ok (.invokevirtual 93, 3) := dk_182 0 93 (dk_at dksX3_isStray_1 16 rfl rfl)
theorem dX3_isStray_42 : decode cX3_isStray 42 = .ok (.if_icmp .ge 7, 3) := dk_162 0 7 (dk_at dksX3_isStray_1 19 rfl rfl)
theorem dX3_isStray_45 : decode cX3_isStray 45 = .ok (.iconst 1, 1) := dk_4 (dk_at dksX3_isStray_1 22 rfl rfl)
theorem dX3_isStray_46 : decode cX3_isStray 46 = .ok (.goto 4, 3) := dk_167 0 4 (dk_at dksX3_isStray_2 0 rfl rfl)
theorem dX3_isStray_49 : decode cX3_isStray 49 = .ok (.iconst 0, 1) := dk_3 (dk_at dksX3_isStray_2 3 rfl rfl)
theorem dX3_isStray_50 : decode cX3_isStray 50 = .ok (.ireturn, 1) := dk_172 (dk_at dksX3_isStray_2 4 rfl rfl)
abbrev cX3_hutOf : ByteArray := prog_14_method_53_code
def yX3_hutOf : MethodName := ⟨RX3, "hutOf", "(II)I"⟩
def dkwX3_hutOf_5 : List UInt8 := [182, 0, 176, 172, 42, 5, 182, 0, 69, 172]
abbrev dktX3_hutOf_5 : List UInt8 := dkwX3_hutOf_5 ++ []
def dkwX3_hutOf_4 : List UInt8 := [182, 0, 113, 172, 42, 27, 182, 0, 106, 172, 42, 27, 182, 0, 96, 172, 42, 27, 182, 0, 173, 172, 42, 27]
abbrev dktX3_hutOf_4 : List UInt8 := dkwX3_hutOf_4 ++ dktX3_hutOf_5
def dkwX3_hutOf_3 : List UInt8 := [42, 180, 0, 7, 16, 81, 27, 96, 46, 172, 42, 180, 0, 7, 16, 87, 27, 96, 46, 172, 42, 27]
abbrev dktX3_hutOf_3 : List UInt8 := dkwX3_hutOf_3 ++ dktX3_hutOf_4
def dkwX3_hutOf_2 : List UInt8 := [170, 0, 0, 0, 91, 0, 0, 0, 0, 0, 0, 0, 6, 0, 0, 0, 41, 0, 0, 0, 51, 0, 0, 0, 61, 0, 0, 0, 67, 0, 0, 0, 73, 0, 0, 0, 79, 0, 0, 0, 85]
abbrev dktX3_hutOf_2 : List UInt8 := dkwX3_hutOf_2 ++ dktX3_hutOf_3
def dkwX3_hutOf_1 : List UInt8 := [3, 172, 28]
abbrev dktX3_hutOf_1 : List UInt8 := dkwX3_hutOf_1 ++ dktX3_hutOf_2
def dkwX3_hutOf_0 : List UInt8 := [42, 42, 27, 182, 0, 142, 153, 0, 7, 3, 167, 0, 4, 4, 181, 0, 53, 42, 180, 0, 53, 158, 0, 5]
abbrev dktX3_hutOf_0 : List UInt8 := dkwX3_hutOf_0 ++ dktX3_hutOf_1
theorem dksX3_hutOf_0 : cX3_hutOf.data.toList.drop 0 = dktX3_hutOf_0 := by decide +kernel
theorem dksX3_hutOf_1 : cX3_hutOf.data.toList.drop 24 = dktX3_hutOf_1 := dk_seg dksX3_hutOf_0 24 rfl rfl
theorem dksX3_hutOf_2 : cX3_hutOf.data.toList.drop 27 = dktX3_hutOf_2 := dk_seg dksX3_hutOf_1 3 rfl rfl
theorem dksX3_hutOf_3 : cX3_hutOf.data.toList.drop 68 = dktX3_hutOf_3 := dk_seg dksX3_hutOf_2 41 rfl rfl
theorem dksX3_hutOf_4 : cX3_hutOf.data.toList.drop 90 = dktX3_hutOf_4 := dk_seg dksX3_hutOf_3 22 rfl rfl
theorem dksX3_hutOf_5 : cX3_hutOf.data.toList.drop 114 = dktX3_hutOf_5 := dk_seg dksX3_hutOf_4 24 rfl rfl
theorem dX3_hutOf_0 : decode cX3_hutOf 0 = .ok (.aload_n 0, 1) := dk_42 (dk_at dksX3_hutOf_0 0 rfl rfl)
theorem dX3_hutOf_1 : decode cX3_hutOf 1 = .ok (.aload_n 0, 1) := dk_42 (dk_at dksX3_hutOf_0 1 rfl rfl)
theorem dX3_hutOf_2 : decode cX3_hutOf 2 = .ok (.iload_n 1, 1) := dk_27 (dk_at dksX3_hutOf_0 2 rfl rfl)
theorem dX3_hutOf_3 : decode cX3_hutOf 3 = .ok (.invokevirtual 142, 3) := dk_182 0 142 (dk_at dksX3_hutOf_0 3 rfl rfl)
theorem dX3_hutOf_6 : decode cX3_hutOf 6 = .ok (.ifCond .eq 7, 3) := dk_153 0 7 (dk_at dksX3_hutOf_0 6 rfl rfl)
theorem dX3_hutOf_9 : decode cX3_hutOf 9 = .ok (.iconst 0, 1) := dk_3 (dk_at dksX3_hutOf_0 9 rfl rfl)
theorem dX3_hutOf_10 : decode cX3_hutOf 10 = .ok (.goto 4, 3) := dk_167 0 4 (dk_at dksX3_hutOf_0 10 rfl rfl)
theorem dX3_hutOf_13 : decode cX3_hutOf 13 = .ok (.iconst 1, 1) := dk_4 (dk_at dksX3_hutOf_0 13 rfl rfl)
theorem dX3_hutOf_14 : decode cX3_hutOf 14 = .ok (.putfield 53, 3) := dk_181 0 53 (dk_at dksX3_hutOf_0 14 rfl rfl)
theorem dX3_hutOf_17 : decode cX3_hutOf 17 = .ok (.aload_n 0, 1) := dk_42 (dk_at dksX3_hutOf_0 17 rfl rfl)
theorem dX3_hutOf_18 : decode cX3_hutOf 18 = .ok (.getfield 53, 3) := dk_180 0 53 (dk_at dksX3_hutOf_0 18 rfl rfl)
theorem dX3_hutOf_21 : decode cX3_hutOf 21 = .ok (.ifCond .le 5, 3) := dk_158 0 5 (dk_at dksX3_hutOf_0 21 rfl rfl)
theorem dX3_hutOf_24 : decode cX3_hutOf 24 = .ok (.iconst 0, 1) := dk_3 (dk_at dksX3_hutOf_1 0 rfl rfl)
theorem dX3_hutOf_25 : decode cX3_hutOf 25 = .ok (.ireturn, 1) := dk_172 (dk_at dksX3_hutOf_1 1 rfl rfl)
theorem dX3_hutOf_26 : decode cX3_hutOf 26 = .ok (.iload_n 2, 1) := dk_28 (dk_at dksX3_hutOf_1 2 rfl rfl)
theorem dX3_hutOf_27 : decode cX3_hutOf 27 = .ok (.tableswitch 91 0 6 #[41, 51, 61, 67, 73, 79, 85], 41) := by decide +kernel
theorem dX3_hutOf_68 : decode cX3_hutOf 68 = .ok (.aload_n 0, 1) := dk_42 (dk_at dksX3_hutOf_3 0 rfl rfl)
theorem dX3_hutOf_69 : decode cX3_hutOf 69 = .ok (.getfield 7, 3) := dk_180 0 7 (dk_at dksX3_hutOf_3 1 rfl rfl)
theorem dX3_hutOf_72 : decode cX3_hutOf 72 = .ok (.bipush 81, 2) := dk_16 81 (dk_at dksX3_hutOf_3 4 rfl rfl)
theorem dX3_hutOf_74 : decode cX3_hutOf 74 = .ok (.iload_n 1, 1) := dk_27 (dk_at dksX3_hutOf_3 6 rfl rfl)
theorem dX3_hutOf_75 : decode cX3_hutOf 75 = .ok (.iadd, 1) := dk_96 (dk_at dksX3_hutOf_3 7 rfl rfl)
theorem dX3_hutOf_76 : decode cX3_hutOf 76 = .ok (.iaload, 1) := dk_46 (dk_at dksX3_hutOf_3 8 rfl rfl)
theorem dX3_hutOf_77 : decode cX3_hutOf 77 = .ok (.ireturn, 1) := dk_172 (dk_at dksX3_hutOf_3 9 rfl rfl)
theorem dX3_hutOf_78 : decode cX3_hutOf 78 = .ok (.aload_n 0, 1) := dk_42 (dk_at dksX3_hutOf_3 10 rfl rfl)
theorem dX3_hutOf_79 : decode cX3_hutOf 79 = .ok (.getfield 7, 3) := dk_180 0 7 (dk_at dksX3_hutOf_3 11 rfl rfl)
theorem dX3_hutOf_82 : decode cX3_hutOf 82 = .ok (.bipush 87, 2) := dk_16 87 (dk_at dksX3_hutOf_3 14 rfl rfl)
theorem dX3_hutOf_84 : decode cX3_hutOf 84 = .ok (.iload_n 1, 1) := dk_27 (dk_at dksX3_hutOf_3 16 rfl rfl)
theorem dX3_hutOf_85 : decode cX3_hutOf 85 = .ok (.iadd, 1) := dk_96 (dk_at dksX3_hutOf_3 17 rfl rfl)
theorem dX3_hutOf_86 : decode cX3_hutOf 86 = .ok (.iaload, 1) := dk_46 (dk_at dksX3_hutOf_3 18 rfl rfl)
theorem dX3_hutOf_87 : decode cX3_hutOf 87 = .ok (.ireturn, 1) := dk_172 (dk_at dksX3_hutOf_3 19 rfl rfl)
theorem dX3_hutOf_88 : decode cX3_hutOf 88 = .ok (.aload_n 0, 1) := dk_42 (dk_at dksX3_hutOf_3 20 rfl rfl)
theorem dX3_hutOf_89 : decode cX3_hutOf 89 = .ok (.iload_n 1, 1) := dk_27 (dk_at dksX3_hutOf_3 21 rfl rfl)
theorem dX3_hutOf_90 : decode cX3_hutOf 90 = .ok (.invokevirtual 113, 3) := dk_182 0 113 (dk_at dksX3_hutOf_4 0 rfl rfl)
theorem dX3_hutOf_93 : decode cX3_hutOf 93 = .ok (.ireturn, 1) := dk_172 (dk_at dksX3_hutOf_4 3 rfl rfl)
theorem dX3_hutOf_94 : decode cX3_hutOf 94 = .ok (.aload_n 0, 1) := dk_42 (dk_at dksX3_hutOf_4 4 rfl rfl)
theorem dX3_hutOf_95 : decode cX3_hutOf 95 = .ok (.iload_n 1, 1) := dk_27 (dk_at dksX3_hutOf_4 5 rfl rfl)
theorem dX3_hutOf_96 : decode cX3_hutOf 96 = .ok (.invokevirtual 106, 3) := dk_182 0 106 (dk_at dksX3_hutOf_4 6 rfl rfl)
theorem dX3_hutOf_99 : decode cX3_hutOf 99 = .ok (.ireturn, 1) := dk_172 (dk_at dksX3_hutOf_4 9 rfl rfl)
theorem dX3_hutOf_100 : decode cX3_hutOf 100 = .ok (.aload_n 0, 1) := dk_42 (dk_at dksX3_hutOf_4 10 rfl rfl)
theorem dX3_hutOf_101 : decode cX3_hutOf 101 = .ok (.iload_n 1, 1) := dk_27 (dk_at dksX3_hutOf_4 11 rfl rfl)
theorem dX3_hutOf_102 : decode cX3_hutOf 102 = .ok (.invokevirtual 96, 3) := dk_182 0 96 (dk_at dksX3_hutOf_4 12 rfl rfl)
theorem dX3_hutOf_105 : decode cX3_hutOf 105 = .ok (.ireturn, 1) := dk_172 (dk_at dksX3_hutOf_4 15 rfl rfl)
theorem dX3_hutOf_106 : decode cX3_hutOf 106 = .ok (.aload_n 0, 1) := dk_42 (dk_at dksX3_hutOf_4 16 rfl rfl)
theorem dX3_hutOf_107 : decode cX3_hutOf 107 = .ok (.iload_n 1, 1) := dk_27 (dk_at dksX3_hutOf_4 17 rfl rfl)
theorem dX3_hutOf_108 : decode cX3_hutOf 108 = .ok (.invokevirtual 173, 3) := dk_182 0 173 (dk_at dksX3_hutOf_4 18 rfl rfl)
theorem dX3_hutOf_111 : decode cX3_hutOf 111 = .ok (.ireturn, 1) := dk_172 (dk_at dksX3_hutOf_4 21 rfl rfl)
theorem dX3_hutOf_112 : decode cX3_hutOf 112 = .ok (.aload_n 0, 1) := dk_42 (dk_at dksX3_hutOf_4 22 rfl rfl)
theorem dX3_hutOf_113 : decode cX3_hutOf 113 = .ok (.iload_n 1, 1) := dk_27 (dk_at dksX3_hutOf_4 23 rfl rfl)
theorem dX3_hutOf_114 : decode cX3_hutOf 114 = .ok (.invokevirtual 176, 3) := dk_182 0 176 (dk_at dksX3_hutOf_5 0 rfl rfl)
theorem dX3_hutOf_117 : decode cX3_hutOf 117 = .ok (.ireturn, 1) := dk_172 (dk_at dksX3_hutOf_5 3 rfl rfl)
theorem dX3_hutOf_118 : decode cX3_hutOf 118 = .ok (.aload_n 0, 1) := dk_42 (dk_at dksX3_hutOf_5 4 rfl rfl)
theorem dX3_hutOf_119 : decode cX3_hutOf 119 = .ok (.iconst 2, 1) := dk_5 (dk_at dksX3_hutOf_5 5 rfl rfl)
theorem dX3_hutOf_120 : decode cX3_hutOf 120 = .ok (.invokevirtual 69, 3) := dk_182 0 69 (dk_at dksX3_hutOf_5 6 rfl rfl)
theorem dX3_hutOf_123 : decode cX3_hutOf 123 = .ok (.ireturn, 1) := dk_172 (dk_at dksX3_hutOf_5 9 rfl rfl)
abbrev cX3_weights : ByteArray := prog_14_method_20_code
def yX3_weights : MethodName := ⟨RX3, "weights", "(I)I"⟩
def dkwX3_weights_2 : List UInt8 := [167, 255, 214, 28, 172]
abbrev dktX3_weights_2 : List UInt8 := dkwX3_weights_2 ++ []
def dkwX3_weights_1 : List UInt8 := [27, 160, 0, 15, 42, 180, 0, 7, 16, 45, 29, 96, 46, 167, 0, 4, 3, 96, 61, 132, 3, 1]
abbrev dktX3_weights_1 : List UInt8 := dkwX3_weights_1 ++ dktX3_weights_2
def dkwX3_weights_0 : List UInt8 := [3, 61, 3, 62, 29, 42, 180, 0, 7, 3, 46, 162, 0, 38, 28, 42, 180, 0, 7, 16, 63, 29, 96, 46]
abbrev dktX3_weights_0 : List UInt8 := dkwX3_weights_0 ++ dktX3_weights_1
theorem dksX3_weights_0 : cX3_weights.data.toList.drop 0 = dktX3_weights_0 := by decide +kernel
theorem dksX3_weights_1 : cX3_weights.data.toList.drop 24 = dktX3_weights_1 := dk_seg dksX3_weights_0 24 rfl rfl
theorem dksX3_weights_2 : cX3_weights.data.toList.drop 46 = dktX3_weights_2 := dk_seg dksX3_weights_1 22 rfl rfl
theorem dX3_weights_0 : decode cX3_weights 0 = .ok (.iconst 0, 1) := dk_3 (dk_at dksX3_weights_0 0 rfl rfl)
theorem dX3_weights_1 : decode cX3_weights 1 = .ok (.istore_n 2, 1) := dk_61 (dk_at dksX3_weights_0 1 rfl rfl)
theorem dX3_weights_2 : decode cX3_weights 2 = .ok (.iconst 0, 1) := dk_3 (dk_at dksX3_weights_0 2 rfl rfl)
theorem dX3_weights_3 : decode cX3_weights 3 = .ok (.istore_n 3, 1) := dk_62 (dk_at dksX3_weights_0 3 rfl rfl)
theorem dX3_weights_4 : decode cX3_weights 4 = .ok (.iload_n 3, 1) := dk_29 (dk_at dksX3_weights_0 4 rfl rfl)
theorem dX3_weights_5 : decode cX3_weights 5 = .ok (.aload_n 0, 1) := dk_42 (dk_at dksX3_weights_0 5 rfl rfl)
theorem dX3_weights_6 : decode cX3_weights 6 = .ok (.getfield 7, 3) := dk_180 0 7 (dk_at dksX3_weights_0 6 rfl rfl)
theorem dX3_weights_9 : decode cX3_weights 9 = .ok (.iconst 0, 1) := dk_3 (dk_at dksX3_weights_0 9 rfl rfl)
theorem dX3_weights_10 : decode cX3_weights 10 = .ok (.iaload, 1) := dk_46 (dk_at dksX3_weights_0 10 rfl rfl)
theorem dX3_weights_11 : decode cX3_weights 11 = .ok (.if_icmp .ge 38, 3) := dk_162 0 38 (dk_at dksX3_weights_0 11 rfl rfl)
theorem dX3_weights_14 : decode cX3_weights 14 = .ok (.iload_n 2, 1) := dk_28 (dk_at dksX3_weights_0 14 rfl rfl)
theorem dX3_weights_15 : decode cX3_weights 15 = .ok (.aload_n 0, 1) := dk_42 (dk_at dksX3_weights_0 15 rfl rfl)
theorem dX3_weights_16 : decode cX3_weights 16 = .ok (.getfield 7, 3) := dk_180 0 7 (dk_at dksX3_weights_0 16 rfl rfl)
theorem dX3_weights_19 : decode cX3_weights 19 = .ok (.bipush 63, 2) := dk_16 63 (dk_at dksX3_weights_0 19 rfl rfl)
theorem dX3_weights_21 : decode cX3_weights 21 = .ok (.iload_n 3, 1) := dk_29 (dk_at dksX3_weights_0 21 rfl rfl)
theorem dX3_weights_22 : decode cX3_weights 22 = .ok (.iadd, 1) := dk_96 (dk_at dksX3_weights_0 22 rfl rfl)
theorem dX3_weights_23 : decode cX3_weights 23 = .ok (.iaload, 1) := dk_46 (dk_at dksX3_weights_0 23 rfl rfl)
theorem dX3_weights_24 : decode cX3_weights 24 = .ok (.iload_n 1, 1) := dk_27 (dk_at dksX3_weights_1 0 rfl rfl)
theorem dX3_weights_25 : decode cX3_weights 25 = .ok (.if_icmp .ne 15, 3) := dk_160 0 15 (dk_at dksX3_weights_1 1 rfl rfl)
theorem dX3_weights_28 : decode cX3_weights 28 = .ok (.aload_n 0, 1) := dk_42 (dk_at dksX3_weights_1 4 rfl rfl)
theorem dX3_weights_29 : decode cX3_weights 29 = .ok (.getfield 7, 3) := dk_180 0 7 (dk_at dksX3_weights_1 5 rfl rfl)
theorem dX3_weights_32 : decode cX3_weights 32 = .ok (.bipush 45, 2) := dk_16 45 (dk_at dksX3_weights_1 8 rfl rfl)
theorem dX3_weights_34 : decode cX3_weights 34 = .ok (.iload_n 3, 1) := dk_29 (dk_at dksX3_weights_1 10 rfl rfl)
theorem dX3_weights_35 : decode cX3_weights 35 = .ok (.iadd, 1) := dk_96 (dk_at dksX3_weights_1 11 rfl rfl)
theorem dX3_weights_36 : decode cX3_weights 36 = .ok (.iaload, 1) := dk_46 (dk_at dksX3_weights_1 12 rfl rfl)
theorem dX3_weights_37 : decode cX3_weights 37 = .ok (.goto 4, 3) := dk_167 0 4 (dk_at dksX3_weights_1 13 rfl rfl)
theorem dX3_weights_40 : decode cX3_weights 40 = .ok (.iconst 0, 1) := dk_3 (dk_at dksX3_weights_1 16 rfl rfl)
theorem dX3_weights_41 : decode cX3_weights 41 = .ok (.iadd, 1) := dk_96 (dk_at dksX3_weights_1 17 rfl rfl)
theorem dX3_weights_42 : decode cX3_weights 42 = .ok (.istore_n 2, 1) := dk_61 (dk_at dksX3_weights_1 18 rfl rfl)
theorem dX3_weights_43 : decode cX3_weights 43 = .ok (.iinc 3 1, 3) := dk_132 3 1 (dk_at dksX3_weights_1 19 rfl rfl)
theorem dX3_weights_46 : decode cX3_weights 46 = .ok (.goto (-42), 3) := dk_167 255 214 (dk_at dksX3_weights_2 0 rfl rfl)
theorem dX3_weights_49 : decode cX3_weights 49 = .ok (.iload_n 2, 1) := dk_28 (dk_at dksX3_weights_2 3 rfl rfl)
theorem dX3_weights_50 : decode cX3_weights 50 = .ok (.ireturn, 1) := dk_172 (dk_at dksX3_weights_2 4 rfl rfl)
abbrev cX3_spreadOf : ByteArray := prog_14_method_21_code
def yX3_spreadOf : MethodName := ⟨RX3, "spreadOf", "(I)I"⟩
def dkwX3_spreadOf_2 : List UInt8 := [96, 61, 132, 3, 1, 167, 255, 207, 28, 172]
abbrev dktX3_spreadOf_2 : List UInt8 := dkwX3_spreadOf_2 ++ []
def dkwX3_spreadOf_1 : List UInt8 := [27, 160, 0, 22, 42, 180, 0, 7, 16, 45, 29, 96, 46, 42, 29, 27, 182, 0, 93, 104, 167, 0, 4, 3]
abbrev dktX3_spreadOf_1 : List UInt8 := dkwX3_spreadOf_1 ++ dktX3_spreadOf_2
def dkwX3_spreadOf_0 : List UInt8 := [3, 61, 3, 62, 29, 42, 180, 0, 7, 3, 46, 162, 0, 45, 28, 42, 180, 0, 7, 16, 63, 29, 96, 46]
abbrev dktX3_spreadOf_0 : List UInt8 := dkwX3_spreadOf_0 ++ dktX3_spreadOf_1
theorem dksX3_spreadOf_0 : cX3_spreadOf.data.toList.drop 0 = dktX3_spreadOf_0 := by decide +kernel
theorem dksX3_spreadOf_1 : cX3_spreadOf.data.toList.drop 24 = dktX3_spreadOf_1 := dk_seg dksX3_spreadOf_0 24 rfl rfl
theorem dksX3_spreadOf_2 : cX3_spreadOf.data.toList.drop 48 = dktX3_spreadOf_2 := dk_seg dksX3_spreadOf_1 24 rfl rfl
theorem dX3_spreadOf_0 : decode cX3_spreadOf 0 = .ok (.iconst 0, 1) := dk_3 (dk_at dksX3_spreadOf_0 0 rfl rfl)
theorem dX3_spreadOf_1 : decode cX3_spreadOf 1 = .ok (.istore_n 2, 1) := dk_61 (dk_at dksX3_spreadOf_0 1 rfl rfl)
theorem dX3_spreadOf_2 : decode cX3_spreadOf 2 = .ok (.iconst 0, 1) := dk_3 (dk_at dksX3_spreadOf_0 2 rfl rfl)
theorem dX3_spreadOf_3 : decode cX3_spreadOf 3 = .ok (.istore_n 3, 1) := dk_62 (dk_at dksX3_spreadOf_0 3 rfl rfl)
theorem dX3_spreadOf_4 : decode cX3_spreadOf 4 = .ok (.iload_n 3, 1) := dk_29 (dk_at dksX3_spreadOf_0 4 rfl rfl)
theorem dX3_spreadOf_5 : decode cX3_spreadOf 5 = .ok (.aload_n 0, 1) := dk_42 (dk_at dksX3_spreadOf_0 5 rfl rfl)
theorem dX3_spreadOf_6 : decode cX3_spreadOf 6 = .ok (.getfield 7, 3) := dk_180 0 7 (dk_at dksX3_spreadOf_0 6 rfl rfl)
theorem dX3_spreadOf_9 : decode cX3_spreadOf 9 = .ok (.iconst 0, 1) := dk_3 (dk_at dksX3_spreadOf_0 9 rfl rfl)
theorem dX3_spreadOf_10 : decode cX3_spreadOf 10 = .ok (.iaload, 1) := dk_46 (dk_at dksX3_spreadOf_0 10 rfl rfl)
theorem dX3_spreadOf_11 : decode cX3_spreadOf 11 = .ok (.if_icmp .ge 45, 3) := dk_162 0 45 (dk_at dksX3_spreadOf_0 11 rfl rfl)
theorem dX3_spreadOf_14 : decode cX3_spreadOf 14 = .ok (.iload_n 2, 1) := dk_28 (dk_at dksX3_spreadOf_0 14 rfl rfl)
theorem dX3_spreadOf_15 : decode cX3_spreadOf 15 = .ok (.aload_n 0, 1) := dk_42 (dk_at dksX3_spreadOf_0 15 rfl rfl)
theorem dX3_spreadOf_16 : decode cX3_spreadOf 16 = .ok (.getfield 7, 3) := dk_180 0 7 (dk_at dksX3_spreadOf_0 16 rfl rfl)
theorem dX3_spreadOf_19 : decode cX3_spreadOf 19 = .ok (.bipush 63, 2) := dk_16 63 (dk_at dksX3_spreadOf_0 19 rfl rfl)
theorem dX3_spreadOf_21 : decode cX3_spreadOf 21 = .ok (.iload_n 3, 1) := dk_29 (dk_at dksX3_spreadOf_0 21 rfl rfl)
theorem dX3_spreadOf_22 : decode cX3_spreadOf 22 = .ok (.iadd, 1) := dk_96 (dk_at dksX3_spreadOf_0 22 rfl rfl)
theorem dX3_spreadOf_23 : decode cX3_spreadOf 23 = .ok (.iaload, 1) := dk_46 (dk_at dksX3_spreadOf_0 23 rfl rfl)
theorem dX3_spreadOf_24 : decode cX3_spreadOf 24 = .ok (.iload_n 1, 1) := dk_27 (dk_at dksX3_spreadOf_1 0 rfl rfl)
theorem dX3_spreadOf_25 : decode cX3_spreadOf 25 = .ok (.if_icmp .ne 22, 3) := dk_160 0 22 (dk_at dksX3_spreadOf_1 1 rfl rfl)
theorem dX3_spreadOf_28 : decode cX3_spreadOf 28 = .ok (.aload_n 0, 1) := dk_42 (dk_at dksX3_spreadOf_1 4 rfl rfl)
theorem dX3_spreadOf_29 : decode cX3_spreadOf 29 = .ok (.getfield 7, 3) := dk_180 0 7 (dk_at dksX3_spreadOf_1 5 rfl rfl)
theorem dX3_spreadOf_32 : decode cX3_spreadOf 32 = .ok (.bipush 45, 2) := dk_16 45 (dk_at dksX3_spreadOf_1 8 rfl rfl)
theorem dX3_spreadOf_34 : decode cX3_spreadOf 34 = .ok (.iload_n 3, 1) := dk_29 (dk_at dksX3_spreadOf_1 10 rfl rfl)
theorem dX3_spreadOf_35 : decode cX3_spreadOf 35 = .ok (.iadd, 1) := dk_96 (dk_at dksX3_spreadOf_1 11 rfl rfl)
theorem dX3_spreadOf_36 : decode cX3_spreadOf 36 = .ok (.iaload, 1) := dk_46 (dk_at dksX3_spreadOf_1 12 rfl rfl)
theorem dX3_spreadOf_37 : decode cX3_spreadOf 37 = .ok (.aload_n 0, 1) := dk_42 (dk_at dksX3_spreadOf_1 13 rfl rfl)
theorem dX3_spreadOf_38 : decode cX3_spreadOf 38 = .ok (.iload_n 3, 1) := dk_29 (dk_at dksX3_spreadOf_1 14 rfl rfl)
theorem dX3_spreadOf_39 : decode cX3_spreadOf 39 = .ok (.iload_n 1, 1) := dk_27 (dk_at dksX3_spreadOf_1 15 rfl rfl)
theorem dX3_spreadOf_40 : decode cX3_spreadOf 40 = .ok (.invokevirtual 93, 3) := dk_182 0 93 (dk_at dksX3_spreadOf_1 16 rfl rfl)
theorem dX3_spreadOf_43 : decode cX3_spreadOf 43 = .ok (.imul, 1) := dk_104 (dk_at dksX3_spreadOf_1 19 rfl rfl)
theorem dX3_spreadOf_44 : decode cX3_spreadOf 44 = .ok (.goto 4, 3) := dk_167 0 4 (dk_at dksX3_spreadOf_1 20 rfl rfl)
theorem dX3_spreadOf_47 : decode cX3_spreadOf 47 = .ok (.iconst 0, 1) := dk_3 (dk_at dksX3_spreadOf_1 23 rfl rfl)
theorem dX3_spreadOf_48 : decode cX3_spreadOf 48 = .ok (.iadd, 1) := dk_96 (dk_at dksX3_spreadOf_2 0 rfl rfl)
theorem dX3_spreadOf_49 : decode cX3_spreadOf 49 = .ok (.istore_n 2, 1) := dk_61 (dk_at dksX3_spreadOf_2 1 rfl rfl)
theorem dX3_spreadOf_50 : decode cX3_spreadOf 50 = .ok (.iinc 3 1, 3) := dk_132 3 1 (dk_at dksX3_spreadOf_2 2 rfl rfl)
theorem dX3_spreadOf_53 : decode cX3_spreadOf 53 = .ok (.goto (-49), 3) := dk_167 255 207 (dk_at dksX3_spreadOf_2 5 rfl rfl)
theorem dX3_spreadOf_56 : decode cX3_spreadOf 56 = .ok (.iload_n 2, 1) := dk_28 (dk_at dksX3_spreadOf_2 8 rfl rfl)
theorem dX3_spreadOf_57 : decode cX3_spreadOf 57 = .ok (.ireturn, 1) := dk_172 (dk_at dksX3_spreadOf_2 9 rfl rfl)
abbrev cX3_farthest : ByteArray := prog_14_method_51_code
def yX3_farthest : MethodName := ⟨RX3, "farthest", "(I)I"⟩
def dkwX3_farthest_2 : List UInt8 := [61, 132, 3, 1, 167, 255, 208, 28, 172]
abbrev dktX3_farthest_2 : List UInt8 := dkwX3_farthest_2 ++ []
def dkwX3_farthest_1 : List UInt8 := [160, 0, 25, 28, 2, 159, 0, 18, 42, 29, 27, 182, 0, 93, 42, 28, 27, 182, 0, 93, 164, 0, 5, 29]
abbrev dktX3_farthest_1 : List UInt8 := dkwX3_farthest_1 ++ dktX3_farthest_2
def dkwX3_farthest_0 : List UInt8 := [2, 61, 3, 62, 29, 42, 180, 0, 7, 3, 46, 162, 0, 44, 42, 180, 0, 7, 16, 63, 29, 96, 46, 27]
abbrev dktX3_farthest_0 : List UInt8 := dkwX3_farthest_0 ++ dktX3_farthest_1
theorem dksX3_farthest_0 : cX3_farthest.data.toList.drop 0 = dktX3_farthest_0 := by decide +kernel
theorem dksX3_farthest_1 : cX3_farthest.data.toList.drop 24 = dktX3_farthest_1 := dk_seg dksX3_farthest_0 24 rfl rfl
theorem dksX3_farthest_2 : cX3_farthest.data.toList.drop 48 = dktX3_farthest_2 := dk_seg dksX3_farthest_1 24 rfl rfl
theorem dX3_farthest_0 : decode cX3_farthest 0 = .ok (.iconst (-1), 1) := dk_2 (dk_at dksX3_farthest_0 0 rfl rfl)
theorem dX3_farthest_1 : decode cX3_farthest 1 = .ok (.istore_n 2, 1) := dk_61 (dk_at dksX3_farthest_0 1 rfl rfl)
theorem dX3_farthest_2 : decode cX3_farthest 2 = .ok (.iconst 0, 1) := dk_3 (dk_at dksX3_farthest_0 2 rfl rfl)
theorem dX3_farthest_3 : decode cX3_farthest 3 = .ok (.istore_n 3, 1) := dk_62 (dk_at dksX3_farthest_0 3 rfl rfl)
theorem dX3_farthest_4 : decode cX3_farthest 4 = .ok (.iload_n 3, 1) := dk_29 (dk_at dksX3_farthest_0 4 rfl rfl)
theorem dX3_farthest_5 : decode cX3_farthest 5 = .ok (.aload_n 0, 1) := dk_42 (dk_at dksX3_farthest_0 5 rfl rfl)
theorem dX3_farthest_6 : decode cX3_farthest 6 = .ok (.getfield 7, 3) := dk_180 0 7 (dk_at dksX3_farthest_0 6 rfl rfl)
theorem dX3_farthest_9 : decode cX3_farthest 9 = .ok (.iconst 0, 1) := dk_3 (dk_at dksX3_farthest_0 9 rfl rfl)
theorem dX3_farthest_10 : decode cX3_farthest 10 = .ok (.iaload, 1) := dk_46 (dk_at dksX3_farthest_0 10 rfl rfl)
theorem dX3_farthest_11 : decode cX3_farthest 11 = .ok (.if_icmp .ge 44, 3) := dk_162 0 44 (dk_at dksX3_farthest_0 11 rfl rfl)
theorem dX3_farthest_14 : decode cX3_farthest 14 = .ok (.aload_n 0, 1) := dk_42 (dk_at dksX3_farthest_0 14 rfl rfl)
theorem dX3_farthest_15 : decode cX3_farthest 15 = .ok (.getfield 7, 3) := dk_180 0 7 (dk_at dksX3_farthest_0 15 rfl rfl)
theorem dX3_farthest_18 : decode cX3_farthest 18 = .ok (.bipush 63, 2) := dk_16 63 (dk_at dksX3_farthest_0 18 rfl rfl)
theorem dX3_farthest_20 : decode cX3_farthest 20 = .ok (.iload_n 3, 1) := dk_29 (dk_at dksX3_farthest_0 20 rfl rfl)
theorem dX3_farthest_21 : decode cX3_farthest 21 = .ok (.iadd, 1) := dk_96 (dk_at dksX3_farthest_0 21 rfl rfl)
theorem dX3_farthest_22 : decode cX3_farthest 22 = .ok (.iaload, 1) := dk_46 (dk_at dksX3_farthest_0 22 rfl rfl)
theorem dX3_farthest_23 : decode cX3_farthest 23 = .ok (.iload_n 1, 1) := dk_27 (dk_at dksX3_farthest_0 23 rfl rfl)
theorem dX3_farthest_24 : decode cX3_farthest 24 = .ok (.if_icmp .ne 25, 3) := dk_160 0 25 (dk_at dksX3_farthest_1 0 rfl rfl)
theorem dX3_farthest_27 : decode cX3_farthest 27 = .ok (.iload_n 2, 1) := dk_28 (dk_at dksX3_farthest_1 3 rfl rfl)
theorem dX3_farthest_28 : decode cX3_farthest 28 = .ok (.iconst (-1), 1) := dk_2 (dk_at dksX3_farthest_1 4 rfl rfl)
theorem dX3_farthest_29 : decode cX3_farthest 29 = .ok (.if_icmp .eq 18, 3) := dk_159 0 18 (dk_at dksX3_farthest_1 5 rfl rfl)
theorem dX3_farthest_32 : decode cX3_farthest 32 = .ok (.aload_n 0, 1) := dk_42 (dk_at dksX3_farthest_1 8 rfl rfl)
theorem dX3_farthest_33 : decode cX3_farthest 33 = .ok (.iload_n 3, 1) := dk_29 (dk_at dksX3_farthest_1 9 rfl rfl)
theorem dX3_farthest_34 : decode cX3_farthest 34 = .ok (.iload_n 1, 1) := dk_27 (dk_at dksX3_farthest_1 10 rfl rfl)
theorem dX3_farthest_35 : decode cX3_farthest 35 = .ok (.invokevirtual 93, 3) := dk_182 0 93 (dk_at dksX3_farthest_1 11 rfl rfl)
theorem dX3_farthest_38 : decode cX3_farthest 38 = .ok (.aload_n 0, 1) := dk_42 (dk_at dksX3_farthest_1 14 rfl rfl)
theorem dX3_farthest_39 : decode cX3_farthest 39 = .ok (.iload_n 2, 1) := dk_28 (dk_at dksX3_farthest_1 15 rfl rfl)
theorem dX3_farthest_40 : decode cX3_farthest 40 = .ok (.iload_n 1, 1) := dk_27 (dk_at dksX3_farthest_1 16 rfl rfl)
theorem dX3_farthest_41 : decode cX3_farthest 41 = .ok (.invokevirtual 93, 3) := dk_182 0 93 (dk_at dksX3_farthest_1 17 rfl rfl)
theorem dX3_farthest_44 : decode cX3_farthest 44 = .ok (.if_icmp .le 5, 3) := dk_164 0 5 (dk_at dksX3_farthest_1 20 rfl rfl)
theorem dX3_farthest_47 : decode cX3_farthest 47 = .ok (.iload_n 3, 1) := dk_29 (dk_at dksX3_farthest_1 23 rfl rfl)
theorem dX3_farthest_48 : decode cX3_farthest 48 = .ok (.istore_n 2, 1) := dk_61 (dk_at dksX3_farthest_2 0 rfl rfl)
theorem dX3_farthest_49 : decode cX3_farthest 49 = .ok (.iinc 3 1, 3) := dk_132 3 1 (dk_at dksX3_farthest_2 1 rfl rfl)
theorem dX3_farthest_52 : decode cX3_farthest 52 = .ok (.goto (-48), 3) := dk_167 255 208 (dk_at dksX3_farthest_2 4 rfl rfl)
theorem dX3_farthest_55 : decode cX3_farthest 55 = .ok (.iload_n 2, 1) := dk_28 (dk_at dksX3_farthest_2 7 rfl rfl)
theorem dX3_farthest_56 : decode cX3_farthest 56 = .ok (.ireturn, 1) := dk_172 (dk_at dksX3_farthest_2 8 rfl rfl)
abbrev cX3_dogsAt : ByteArray := prog_14_method_52_code
def yX3_dogsAt : MethodName := ⟨RX3, "dogsAt", "(I)I"⟩
def dkwX3_dogsAt_1 : List UInt8 := [167, 0, 4, 3, 96, 61, 132, 3, 1, 167, 255, 227, 28, 172]
abbrev dktX3_dogsAt_1 : List UInt8 := dkwX3_dogsAt_1 ++ []
def dkwX3_dogsAt_0 : List UInt8 := [3, 61, 3, 62, 29, 6, 162, 0, 30, 28, 42, 180, 0, 7, 16, 6, 29, 96, 46, 27, 160, 0, 7, 4]
abbrev dktX3_dogsAt_0 : List UInt8 := dkwX3_dogsAt_0 ++ dktX3_dogsAt_1
theorem dksX3_dogsAt_0 : cX3_dogsAt.data.toList.drop 0 = dktX3_dogsAt_0 := by decide +kernel
theorem dksX3_dogsAt_1 : cX3_dogsAt.data.toList.drop 24 = dktX3_dogsAt_1 := dk_seg dksX3_dogsAt_0 24 rfl rfl
theorem dX3_dogsAt_0 : decode cX3_dogsAt 0 = .ok (.iconst 0, 1) := dk_3 (dk_at dksX3_dogsAt_0 0 rfl rfl)
theorem dX3_dogsAt_1 : decode cX3_dogsAt 1 = .ok (.istore_n 2, 1) := dk_61 (dk_at dksX3_dogsAt_0 1 rfl rfl)
theorem dX3_dogsAt_2 : decode cX3_dogsAt 2 = .ok (.iconst 0, 1) := dk_3 (dk_at dksX3_dogsAt_0 2 rfl rfl)
theorem dX3_dogsAt_3 : decode cX3_dogsAt 3 = .ok (.istore_n 3, 1) := dk_62 (dk_at dksX3_dogsAt_0 3 rfl rfl)
theorem dX3_dogsAt_4 : decode cX3_dogsAt 4 = .ok (.iload_n 3, 1) := dk_29 (dk_at dksX3_dogsAt_0 4 rfl rfl)
theorem dX3_dogsAt_5 : decode cX3_dogsAt 5 = .ok (.iconst 3, 1) := dk_6 (dk_at dksX3_dogsAt_0 5 rfl rfl)
theorem dX3_dogsAt_6 : decode cX3_dogsAt 6 = .ok (.if_icmp .ge 30, 3) := dk_162 0 30 (dk_at dksX3_dogsAt_0 6 rfl rfl)
theorem dX3_dogsAt_9 : decode cX3_dogsAt 9 = .ok (.iload_n 2, 1) := dk_28 (dk_at dksX3_dogsAt_0 9 rfl rfl)
theorem dX3_dogsAt_10 : decode cX3_dogsAt 10 = .ok (.aload_n 0, 1) := dk_42 (dk_at dksX3_dogsAt_0 10 rfl rfl)
theorem dX3_dogsAt_11 : decode cX3_dogsAt 11 = .ok (.getfield 7, 3) := dk_180 0 7 (dk_at dksX3_dogsAt_0 11 rfl rfl)
theorem dX3_dogsAt_14 : decode cX3_dogsAt 14 = .ok (.bipush 6, 2) := dk_16 6 (dk_at dksX3_dogsAt_0 14 rfl rfl)
theorem dX3_dogsAt_16 : decode cX3_dogsAt 16 = .ok (.iload_n 3, 1) := dk_29 (dk_at dksX3_dogsAt_0 16 rfl rfl)
theorem dX3_dogsAt_17 : decode cX3_dogsAt 17 = .ok (.iadd, 1) := dk_96 (dk_at dksX3_dogsAt_0 17 rfl rfl)
theorem dX3_dogsAt_18 : decode cX3_dogsAt 18 = .ok (.iaload, 1) := dk_46 (dk_at dksX3_dogsAt_0 18 rfl rfl)
theorem dX3_dogsAt_19 : decode cX3_dogsAt 19 = .ok (.iload_n 1, 1) := dk_27 (dk_at dksX3_dogsAt_0 19 rfl rfl)
theorem dX3_dogsAt_20 : decode cX3_dogsAt 20 = .ok (.if_icmp .ne 7, 3) := dk_160 0 7 (dk_at dksX3_dogsAt_0 20 rfl rfl)
theorem dX3_dogsAt_23 : decode cX3_dogsAt 23 = .ok (.iconst 1, 1) := dk_4 (dk_at dksX3_dogsAt_0 23 rfl rfl)
theorem dX3_dogsAt_24 : decode cX3_dogsAt 24 = .ok (.goto 4, 3) := dk_167 0 4 (dk_at dksX3_dogsAt_1 0 rfl rfl)
theorem dX3_dogsAt_27 : decode cX3_dogsAt 27 = .ok (.iconst 0, 1) := dk_3 (dk_at dksX3_dogsAt_1 3 rfl rfl)
theorem dX3_dogsAt_28 : decode cX3_dogsAt 28 = .ok (.iadd, 1) := dk_96 (dk_at dksX3_dogsAt_1 4 rfl rfl)
theorem dX3_dogsAt_29 : decode cX3_dogsAt 29 = .ok (.istore_n 2, 1) := dk_61 (dk_at dksX3_dogsAt_1 5 rfl rfl)
theorem dX3_dogsAt_30 : decode cX3_dogsAt 30 = .ok (.iinc 3 1, 3) := dk_132 3 1 (dk_at dksX3_dogsAt_1 6 rfl rfl)
theorem dX3_dogsAt_33 : decode cX3_dogsAt 33 = .ok (.goto (-29), 3) := dk_167 255 227 (dk_at dksX3_dogsAt_1 9 rfl rfl)
theorem dX3_dogsAt_36 : decode cX3_dogsAt 36 = .ok (.iload_n 2, 1) := dk_28 (dk_at dksX3_dogsAt_1 12 rfl rfl)
theorem dX3_dogsAt_37 : decode cX3_dogsAt 37 = .ok (.ireturn, 1) := dk_172 (dk_at dksX3_dogsAt_1 13 rfl rfl)
abbrev cX3_round : ByteArray := prog_14_method_54_code
def yX3_round : MethodName := ⟨RX3, "round", "()I"⟩
def dkwX3_round_0 : List UInt8 := [42, 182, 0, 149, 42, 42, 182, 0, 179, 4, 182, 0, 155, 172]
abbrev dktX3_round_0 : List UInt8 := dkwX3_round_0 ++ []
theorem dksX3_round_0 : cX3_round.data.toList.drop 0 = dktX3_round_0 := by decide +kernel
theorem dX3_round_0 : decode cX3_round 0 = .ok (.aload_n 0, 1) := dk_42 (dk_at dksX3_round_0 0 rfl rfl)
theorem dX3_round_1 : decode cX3_round 1 = .ok (.invokevirtual 149, 3) := dk_182 0 149 (dk_at dksX3_round_0 1 rfl rfl)
theorem dX3_round_4 : decode cX3_round 4 = .ok (.aload_n 0, 1) := dk_42 (dk_at dksX3_round_0 4 rfl rfl)
theorem dX3_round_5 : decode cX3_round 5 = .ok (.aload_n 0, 1) := dk_42 (dk_at dksX3_round_0 5 rfl rfl)
theorem dX3_round_6 : decode cX3_round 6 = .ok (.invokevirtual 179, 3) := dk_182 0 179 (dk_at dksX3_round_0 6 rfl rfl)
theorem dX3_round_9 : decode cX3_round 9 = .ok (.iconst 1, 1) := dk_4 (dk_at dksX3_round_0 9 rfl rfl)
theorem dX3_round_10 : decode cX3_round 10 = .ok (.invokevirtual 155, 3) := dk_182 0 155 (dk_at dksX3_round_0 10 rfl rfl)
theorem dX3_round_13 : decode cX3_round 13 = .ok (.ireturn, 1) := dk_172 (dk_at dksX3_round_0 13 rfl rfl)
abbrev cX3_rounds : ByteArray := prog_14_method_39_code
def yX3_rounds : MethodName := ⟨RX3, "rounds", "()I"⟩
def dkwX3_rounds_1 : List UInt8 := [182, 0, 123, 182, 0, 133, 172]
abbrev dktX3_rounds_1 : List UInt8 := dkwX3_rounds_1 ++ []
def dkwX3_rounds_0 : List UInt8 := [42, 180, 0, 7, 4, 46, 154, 0, 15, 42, 6, 42, 180, 0, 7, 3, 46, 182, 0, 130, 172, 42, 42]
abbrev dktX3_rounds_0 : List UInt8 := dkwX3_rounds_0 ++ dktX3_rounds_1
theorem dksX3_rounds_0 : cX3_rounds.data.toList.drop 0 = dktX3_rounds_0 := by decide +kernel
theorem dksX3_rounds_1 : cX3_rounds.data.toList.drop 23 = dktX3_rounds_1 := dk_seg dksX3_rounds_0 23 rfl rfl
theorem dX3_rounds_0 : decode cX3_rounds 0 = .ok (.aload_n 0, 1) := dk_42 (dk_at dksX3_rounds_0 0 rfl rfl)
theorem dX3_rounds_1 : decode cX3_rounds 1 = .ok (.getfield 7, 3) := dk_180 0 7 (dk_at dksX3_rounds_0 1 rfl rfl)
theorem dX3_rounds_4 : decode cX3_rounds 4 = .ok (.iconst 1, 1) := dk_4 (dk_at dksX3_rounds_0 4 rfl rfl)
theorem dX3_rounds_5 : decode cX3_rounds 5 = .ok (.iaload, 1) := dk_46 (dk_at dksX3_rounds_0 5 rfl rfl)
theorem dX3_rounds_6 : decode cX3_rounds 6 = .ok (.ifCond .ne 15, 3) := dk_154 0 15 (dk_at dksX3_rounds_0 6 rfl rfl)
theorem dX3_rounds_9 : decode cX3_rounds 9 = .ok (.aload_n 0, 1) := dk_42 (dk_at dksX3_rounds_0 9 rfl rfl)
theorem dX3_rounds_10 : decode cX3_rounds 10 = .ok (.iconst 3, 1) := dk_6 (dk_at dksX3_rounds_0 10 rfl rfl)
theorem dX3_rounds_11 : decode cX3_rounds 11 = .ok (.aload_n 0, 1) := dk_42 (dk_at dksX3_rounds_0 11 rfl rfl)
theorem dX3_rounds_12 : decode cX3_rounds 12 = .ok (.getfield 7, 3) := dk_180 0 7 (dk_at dksX3_rounds_0 12 rfl rfl)
theorem dX3_rounds_15 : decode cX3_rounds 15 = .ok (.iconst 0, 1) := dk_3 (dk_at dksX3_rounds_0 15 rfl rfl)
theorem dX3_rounds_16 : decode cX3_rounds 16 = .ok (.iaload, 1) := dk_46 (dk_at dksX3_rounds_0 16 rfl rfl)
theorem dX3_rounds_17 : decode cX3_rounds 17 = .ok (.invokevirtual 130, 3) := dk_182 0 130 (dk_at dksX3_rounds_0 17 rfl rfl)
theorem dX3_rounds_20 : decode cX3_rounds 20 = .ok (.ireturn, 1) := dk_172 (dk_at dksX3_rounds_0 20 rfl rfl)
theorem dX3_rounds_21 : decode cX3_rounds 21 = .ok (.aload_n 0, 1) := dk_42 (dk_at dksX3_rounds_0 21 rfl rfl)
theorem dX3_rounds_22 : decode cX3_rounds 22 = .ok (.aload_n 0, 1) := dk_42 (dk_at dksX3_rounds_0 22 rfl rfl)
theorem dX3_rounds_23 : decode cX3_rounds 23 = .ok (.invokevirtual 123, 3) := dk_182 0 123 (dk_at dksX3_rounds_1 0 rfl rfl)
theorem dX3_rounds_26 : decode cX3_rounds 26 = .ok (.invokevirtual 133, 3) := dk_182 0 133 (dk_at dksX3_rounds_1 3 rfl rfl)
theorem dX3_rounds_29 : decode cX3_rounds 29 = .ok (.ireturn, 1) := dk_172 (dk_at dksX3_rounds_1 6 rfl rfl)
abbrev cX3_goesRound : ByteArray := prog_14_method_28_code
def yX3_goesRound : MethodName := ⟨RX3, "goesRound", "()I"⟩
def dkwX3_goesRound_12 : List UInt8 := [167, 0, 4, 4, 96, 61, 132, 3, 1, 167, 255, 204, 28, 172]
abbrev dktX3_goesRound_12 : List UInt8 := dkwX3_goesRound_12 ++ []
def dkwX3_goesRound_11 : List UInt8 := [29, 46, 160, 0, 25, 42, 180, 0, 7, 16, 87, 29, 96, 46, 42, 180, 0, 40, 29, 46, 160, 0, 7, 3]
abbrev dktX3_goesRound_11 : List UInt8 := dkwX3_goesRound_11 ++ dktX3_goesRound_12
def dkwX3_goesRound_10 : List UInt8 := [79, 3, 61, 3, 62, 29, 27, 162, 0, 53, 28, 42, 180, 0, 7, 16, 81, 29, 96, 46, 42, 180, 0, 37]
abbrev dktX3_goesRound_10 : List UInt8 := dkwX3_goesRound_10 ++ dktX3_goesRound_11
def dkwX3_goesRound_9 : List UInt8 := [180, 0, 7, 6, 92, 46, 4, 96, 79, 132, 2, 1, 167, 255, 172, 42, 180, 0, 7, 5, 92, 46, 4, 96]
abbrev dktX3_goesRound_9 : List UInt8 := dkwX3_goesRound_9 ++ dktX3_goesRound_10
def dkwX3_goesRound_8 : List UInt8 := [96, 46, 79, 42, 180, 0, 7, 16, 87, 28, 96, 42, 180, 0, 7, 16, 27, 29, 96, 46, 79, 42]
abbrev dktX3_goesRound_8 : List UInt8 := dkwX3_goesRound_8 ++ dktX3_goesRound_9
def dkwX3_goesRound_7 : List UInt8 := [167, 0, 55, 42, 29, 28, 182, 0, 109, 42, 180, 0, 7, 16, 81, 28, 96, 42, 180, 0, 7, 16, 9, 29]
abbrev dktX3_goesRound_7 : List UInt8 := dkwX3_goesRound_7 ++ dktX3_goesRound_8
def dkwX3_goesRound_6 : List UInt8 := [162, 0, 85, 42, 28, 182, 0, 113, 158, 0, 6, 167, 0, 68, 42, 182, 0, 119, 62, 29, 2, 160, 0, 6]
abbrev dktX3_goesRound_6 : List UInt8 := dkwX3_goesRound_6 ++ dktX3_goesRound_7
def dkwX3_goesRound_5 : List UInt8 := [182, 0, 116, 79, 42, 180, 0, 7, 16, 81, 28, 96, 29, 79, 132, 2, 1, 167, 255, 203, 3, 61, 28, 27]
abbrev dktX3_goesRound_5 : List UInt8 := dkwX3_goesRound_5 ++ dktX3_goesRound_6
def dkwX3_goesRound_4 : List UInt8 := [167, 0, 37, 42, 28, 16, 9, 182, 0, 116, 62, 42, 180, 0, 7, 16, 87, 28, 96, 42, 28, 16, 27]
abbrev dktX3_goesRound_4 : List UInt8 := dkwX3_goesRound_4 ++ dktX3_goesRound_5
def dkwX3_goesRound_3 : List UInt8 := [182, 0, 109, 132, 2, 1, 167, 255, 233, 3, 61, 28, 27, 162, 0, 54, 42, 28, 182, 0, 113, 154, 0, 6]
abbrev dktX3_goesRound_3 : List UInt8 := dkwX3_goesRound_3 ++ dktX3_goesRound_4
def dkwX3_goesRound_2 : List UInt8 := [167, 255, 218, 3, 61, 28, 42, 180, 0, 7, 3, 46, 162, 0, 19, 42, 28, 42, 28, 182, 0, 99]
abbrev dktX3_goesRound_2 : List UInt8 := dkwX3_goesRound_2 ++ dktX3_goesRound_3
def dkwX3_goesRound_1 : List UInt8 := [16, 81, 28, 96, 46, 79, 42, 180, 0, 40, 28, 42, 180, 0, 7, 16, 87, 28, 96, 46, 79, 132, 2, 1]
abbrev dktX3_goesRound_1 : List UInt8 := dkwX3_goesRound_1 ++ dktX3_goesRound_2
def dkwX3_goesRound_0 : List UInt8 := [42, 180, 0, 7, 4, 46, 60, 3, 61, 28, 27, 162, 0, 39, 42, 180, 0, 37, 28, 42, 180, 0, 7]
abbrev dktX3_goesRound_0 : List UInt8 := dkwX3_goesRound_0 ++ dktX3_goesRound_1
theorem dksX3_goesRound_0 : cX3_goesRound.data.toList.drop 0 = dktX3_goesRound_0 := by decide +kernel
theorem dksX3_goesRound_1 : cX3_goesRound.data.toList.drop 23 = dktX3_goesRound_1 := dk_seg dksX3_goesRound_0 23 rfl rfl
theorem dksX3_goesRound_2 : cX3_goesRound.data.toList.drop 47 = dktX3_goesRound_2 := dk_seg dksX3_goesRound_1 24 rfl rfl
theorem dksX3_goesRound_3 : cX3_goesRound.data.toList.drop 69 = dktX3_goesRound_3 := dk_seg dksX3_goesRound_2 22 rfl rfl
theorem dksX3_goesRound_4 : cX3_goesRound.data.toList.drop 93 = dktX3_goesRound_4 := dk_seg dksX3_goesRound_3 24 rfl rfl
theorem dksX3_goesRound_5 : cX3_goesRound.data.toList.drop 116 = dktX3_goesRound_5 := dk_seg dksX3_goesRound_4 23 rfl rfl
theorem dksX3_goesRound_6 : cX3_goesRound.data.toList.drop 140 = dktX3_goesRound_6 := dk_seg dksX3_goesRound_5 24 rfl rfl
theorem dksX3_goesRound_7 : cX3_goesRound.data.toList.drop 164 = dktX3_goesRound_7 := dk_seg dksX3_goesRound_6 24 rfl rfl
theorem dksX3_goesRound_8 : cX3_goesRound.data.toList.drop 188 = dktX3_goesRound_8 := dk_seg dksX3_goesRound_7 24 rfl rfl
theorem dksX3_goesRound_9 : cX3_goesRound.data.toList.drop 210 = dktX3_goesRound_9 := dk_seg dksX3_goesRound_8 22 rfl rfl
theorem dksX3_goesRound_10 : cX3_goesRound.data.toList.drop 234 = dktX3_goesRound_10 := dk_seg dksX3_goesRound_9 24 rfl rfl
theorem dksX3_goesRound_11 : cX3_goesRound.data.toList.drop 258 = dktX3_goesRound_11 := dk_seg dksX3_goesRound_10 24 rfl rfl
theorem dksX3_goesRound_12 : cX3_goesRound.data.toList.drop 282 = dktX3_goesRound_12 := dk_seg dksX3_goesRound_11 24 rfl rfl
theorem dX3_goesRound_0 : decode cX3_goesRound 0 = .ok (.aload_n 0, 1) := dk_42 (dk_at dksX3_goesRound_0 0 rfl rfl)
theorem dX3_goesRound_1 : decode cX3_goesRound 1 = .ok (.getfield 7, 3) := dk_180 0 7 (dk_at dksX3_goesRound_0 1 rfl rfl)
theorem dX3_goesRound_4 : decode cX3_goesRound 4 = .ok (.iconst 1, 1) := dk_4 (dk_at dksX3_goesRound_0 4 rfl rfl)
theorem dX3_goesRound_5 : decode cX3_goesRound 5 = .ok (.iaload, 1) := dk_46 (dk_at dksX3_goesRound_0 5 rfl rfl)
theorem dX3_goesRound_6 : decode cX3_goesRound 6 = .ok (.istore_n 1, 1) := dk_60 (dk_at dksX3_goesRound_0 6 rfl rfl)
theorem dX3_goesRound_7 : decode cX3_goesRound 7 = .ok (.iconst 0, 1) := dk_3 (dk_at dksX3_goesRound_0 7 rfl rfl)
theorem dX3_goesRound_8 : decode cX3_goesRound 8 = .ok (.istore_n 2, 1) := dk_61 (dk_at dksX3_goesRound_0 8 rfl rfl)
theorem dX3_goesRound_9 : decode cX3_goesRound 9 = .ok (.iload_n 2, 1) := dk_28 (dk_at dksX3_goesRound_0 9 rfl rfl)
theorem dX3_goesRound_10 : decode cX3_goesRound 10 = .ok (.iload_n 1, 1) := dk_27 (dk_at dksX3_goesRound_0 10 rfl rfl)
theorem dX3_goesRound_11 : decode cX3_goesRound 11 = .ok (.if_icmp .ge 39, 3) := dk_162 0 39 (dk_at dksX3_goesRound_0 11 rfl rfl)
theorem dX3_goesRound_14 : decode cX3_goesRound 14 = .ok (.aload_n 0, 1) := dk_42 (dk_at dksX3_goesRound_0 14 rfl rfl)
theorem dX3_goesRound_15 : decode cX3_goesRound 15 = .ok (.getfield 37, 3) := dk_180 0 37 (dk_at dksX3_goesRound_0 15 rfl rfl)
theorem dX3_goesRound_18 : decode cX3_goesRound 18 = .ok (.iload_n 2, 1) := dk_28 (dk_at dksX3_goesRound_0 18 rfl rfl)
theorem dX3_goesRound_19 : decode cX3_goesRound 19 = .ok (.aload_n 0, 1) := dk_42 (dk_at dksX3_goesRound_0 19 rfl rfl)
theorem dX3_goesRound_20 : decode cX3_goesRound 20 = .ok (.getfield 7, 3) := dk_180 0 7 (dk_at dksX3_goesRound_0 20 rfl rfl)
theorem dX3_goesRound_23 : decode cX3_goesRound 23 = .ok (.bipush 81, 2) := dk_16 81 (dk_at dksX3_goesRound_1 0 rfl rfl)
theorem dX3_goesRound_25 : decode cX3_goesRound 25 = .ok (.iload_n 2, 1) := dk_28 (dk_at dksX3_goesRound_1 2 rfl rfl)
theorem dX3_goesRound_26 : decode cX3_goesRound 26 = .ok (.iadd, 1) := dk_96 (dk_at dksX3_goesRound_1 3 rfl rfl)
theorem dX3_goesRound_27 : decode cX3_goesRound 27 = .ok (.iaload, 1) := dk_46 (dk_at dksX3_goesRound_1 4 rfl rfl)
theorem dX3_goesRound_28 : decode cX3_goesRound 28 = .ok (.iastore, 1) := dk_79 (dk_at dksX3_goesRound_1 5 rfl rfl)
theorem dX3_goesRound_29 : decode cX3_goesRound 29 = .ok (.aload_n 0, 1) := dk_42 (dk_at dksX3_goesRound_1 6 rfl rfl)
theorem dX3_goesRound_30 : decode cX3_goesRound 30 = .ok (.getfield 40, 3) := dk_180 0 40 (dk_at dksX3_goesRound_1 7 rfl rfl)
theorem dX3_goesRound_33 : decode cX3_goesRound 33 = .ok (.iload_n 2, 1) := dk_28 (dk_at dksX3_goesRound_1 10 rfl rfl)
theorem dX3_goesRound_34 : decode cX3_goesRound 34 = .ok (.aload_n 0, 1) := dk_42 (dk_at dksX3_goesRound_1 11 rfl rfl)
theorem dX3_goesRound_35 : decode cX3_goesRound 35 = .ok (.getfield 7, 3) := dk_180 0 7 (dk_at dksX3_goesRound_1 12 rfl rfl)
theorem dX3_goesRound_38 : decode cX3_goesRound 38 = .ok (.bipush 87, 2) := dk_16 87 (dk_at dksX3_goesRound_1 15 rfl rfl)
theorem dX3_goesRound_40 : decode cX3_goesRound 40 = .ok (.iload_n 2, 1) := dk_28 (dk_at dksX3_goesRound_1 17 rfl rfl)
theorem dX3_goesRound_41 : decode cX3_goesRound 41 = .ok (.iadd, 1) := dk_96 (dk_at dksX3_goesRound_1 18 rfl rfl)
theorem dX3_goesRound_42 : decode cX3_goesRound 42 = .ok (.iaload, 1) := dk_46 (dk_at dksX3_goesRound_1 19 rfl rfl)
theorem dX3_goesRound_43 : decode cX3_goesRound 43 = .ok (.iastore, 1) := dk_79 (dk_at dksX3_goesRound_1 20 rfl rfl)
theorem dX3_goesRound_44 : decode cX3_goesRound 44 = .ok (.iinc 2 1, 3) := dk_132 2 1 (dk_at dksX3_goesRound_1 21 rfl rfl)
theorem dX3_goesRound_47 : decode cX3_goesRound 47 = .ok (.goto (-38), 3) := dk_167 255 218 (dk_at dksX3_goesRound_2 0 rfl rfl)
theorem dX3_goesRound_50 : decode cX3_goesRound 50 = .ok (.iconst 0, 1) := dk_3 (dk_at dksX3_goesRound_2 3 rfl rfl)
theorem dX3_goesRound_51 : decode cX3_goesRound 51 = .ok (.istore_n 2, 1) := dk_61 (dk_at dksX3_goesRound_2 4 rfl rfl)
theorem dX3_goesRound_52 : decode cX3_goesRound 52 = .ok (.iload_n 2, 1) := dk_28 (dk_at dksX3_goesRound_2 5 rfl rfl)
theorem dX3_goesRound_53 : decode cX3_goesRound 53 = .ok (.aload_n 0, 1) := dk_42 (dk_at dksX3_goesRound_2 6 rfl rfl)
theorem dX3_goesRound_54 : decode cX3_goesRound 54 = .ok (.getfield 7, 3) := dk_180 0 7 (dk_at dksX3_goesRound_2 7 rfl rfl)
theorem dX3_goesRound_57 : decode cX3_goesRound 57 = .ok (.iconst 0, 1) := dk_3 (dk_at dksX3_goesRound_2 10 rfl rfl)
theorem dX3_goesRound_58 : decode cX3_goesRound 58 = .ok (.iaload, 1) := dk_46 (dk_at dksX3_goesRound_2 11 rfl rfl)
theorem dX3_goesRound_59 : decode cX3_goesRound 59 = .ok (.if_icmp .ge 19, 3) := dk_162 0 19 (dk_at dksX3_goesRound_2 12 rfl rfl)
theorem dX3_goesRound_62 : decode cX3_goesRound 62 = .ok (.aload_n 0, 1) := dk_42 (dk_at dksX3_goesRound_2 15 rfl rfl)
theorem dX3_goesRound_63 : decode cX3_goesRound 63 = .ok (.iload_n 2, 1) := dk_28 (dk_at dksX3_goesRound_2 16 rfl rfl)
theorem dX3_goesRound_64 : decode cX3_goesRound 64 = .ok (.aload_n 0, 1) := dk_42 (dk_at dksX3_goesRound_2 17 rfl rfl)
theorem dX3_goesRound_65 : decode cX3_goesRound 65 = .ok (.iload_n 2, 1) := dk_28 (dk_at dksX3_goesRound_2 18 rfl rfl)
theorem dX3_goesRound_66 : decode cX3_goesRound 66 = .ok (.invokevirtual 99, 3) := dk_182 0 99 (dk_at dksX3_goesRound_2 19 rfl rfl)
theorem dX3_goesRound_69 : decode cX3_goesRound 69 = .ok (.invokevirtual 109, 3) := dk_182 0 109 (dk_at dksX3_goesRound_3 0 rfl rfl)
theorem dX3_goesRound_72 : decode cX3_goesRound 72 = .ok (.iinc 2 1, 3) := dk_132 2 1 (dk_at dksX3_goesRound_3 3 rfl rfl)
theorem dX3_goesRound_75 : decode cX3_goesRound 75 = .ok (.goto (-23), 3) := dk_167 255 233 (dk_at dksX3_goesRound_3 6 rfl rfl)
theorem dX3_goesRound_78 : decode cX3_goesRound 78 = .ok (.iconst 0, 1) := dk_3 (dk_at dksX3_goesRound_3 9 rfl rfl)
theorem dX3_goesRound_79 : decode cX3_goesRound 79 = .ok (.istore_n 2, 1) := dk_61 (dk_at dksX3_goesRound_3 10 rfl rfl)
theorem dX3_goesRound_80 : decode cX3_goesRound 80 = .ok (.iload_n 2, 1) := dk_28 (dk_at dksX3_goesRound_3 11 rfl rfl)
theorem dX3_goesRound_81 : decode cX3_goesRound 81 = .ok (.iload_n 1, 1) := dk_27 (dk_at dksX3_goesRound_3 12 rfl rfl)
theorem dX3_goesRound_82 : decode cX3_goesRound 82 = .ok (.if_icmp .ge 54, 3) := dk_162 0 54 (dk_at dksX3_goesRound_3 13 rfl rfl)
theorem dX3_goesRound_85 : decode cX3_goesRound 85 = .ok (.aload_n 0, 1) := dk_42 (dk_at dksX3_goesRound_3 16 rfl rfl)
theorem dX3_goesRound_86 : decode cX3_goesRound 86 = .ok (.iload_n 2, 1) := dk_28 (dk_at dksX3_goesRound_3 17 rfl rfl)
theorem dX3_goesRound_87 : decode cX3_goesRound 87 = .ok (.invokevirtual 113, 3) := dk_182 0 113 (dk_at dksX3_goesRound_3 18 rfl rfl)
theorem dX3_goesRound_90 : decode cX3_goesRound 90 = .ok (.ifCond .ne 6, 3) := dk_154 0 6 (dk_at dksX3_goesRound_3 21 rfl rfl)
theorem dX3_goesRound_93 : decode cX3_goesRound 93 = .ok (.goto 37, 3) := dk_167 0 37 (dk_at dksX3_goesRound_4 0 rfl rfl)
theorem dX3_goesRound_96 : decode cX3_goesRound 96 = .ok (.aload_n 0, 1) := dk_42 (dk_at dksX3_goesRound_4 3 rfl rfl)
theorem dX3_goesRound_97 : decode cX3_goesRound 97 = .ok (.iload_n 2, 1) := dk_28 (dk_at dksX3_goesRound_4 4 rfl rfl)
theorem dX3_goesRound_98 : decode cX3_goesRound 98 = .ok (.bipush 9, 2) := dk_16 9 (dk_at dksX3_goesRound_4 5 rfl rfl)
theorem dX3_goesRound_100 : decode cX3_goesRound 100 = .ok (.invokevirtual 116, 3) := dk_182 0 116 (dk_at dksX3_goesRound_4 7 rfl rfl)
theorem dX3_goesRound_103 : decode cX3_goesRound 103 = .ok (.istore_n 3, 1) := dk_62 (dk_at dksX3_goesRound_4 10 rfl rfl)
theorem dX3_goesRound_104 : decode cX3_goesRound 104 = .ok (.aload_n 0, 1) := dk_42 (dk_at dksX3_goesRound_4 11 rfl rfl)
theorem dX3_goesRound_105 : decode cX3_goesRound 105 = .ok (.getfield 7, 3) := dk_180 0 7 (dk_at dksX3_goesRound_4 12 rfl rfl)
theorem dX3_goesRound_108 : decode cX3_goesRound 108 = .ok (.bipush 87, 2) := dk_16 87 (dk_at dksX3_goesRound_4 15 rfl rfl)
theorem dX3_goesRound_110 : decode cX3_goesRound 110 = .ok (.iload_n 2, 1) := dk_28 (dk_at dksX3_goesRound_4 17 rfl rfl)
theorem dX3_goesRound_111 : decode cX3_goesRound 111 = .ok (.iadd, 1) := dk_96 (dk_at dksX3_goesRound_4 18 rfl rfl)
theorem dX3_goesRound_112 : decode cX3_goesRound 112 = .ok (.aload_n 0, 1) := dk_42 (dk_at dksX3_goesRound_4 19 rfl rfl)
theorem dX3_goesRound_113 : decode cX3_goesRound 113 = .ok (.iload_n 2, 1) := dk_28 (dk_at dksX3_goesRound_4 20 rfl rfl)
theorem dX3_goesRound_114 : decode cX3_goesRound 114 = .ok (.bipush 27, 2) := dk_16 27 (dk_at dksX3_goesRound_4 21 rfl rfl)
theorem dX3_goesRound_116 : decode cX3_goesRound 116 = .ok (.invokevirtual 116, 3) := dk_182 0 116 (dk_at dksX3_goesRound_5 0 rfl rfl)
theorem dX3_goesRound_119 : decode cX3_goesRound 119 = .ok (.iastore, 1) := dk_79 (dk_at dksX3_goesRound_5 3 rfl rfl)
theorem dX3_goesRound_120 : decode cX3_goesRound 120 = .ok (.aload_n 0, 1) := dk_42 (dk_at dksX3_goesRound_5 4 rfl rfl)
theorem dX3_goesRound_121 : decode cX3_goesRound 121 = .ok (.getfield 7, 3) := dk_180 0 7 (dk_at dksX3_goesRound_5 5 rfl rfl)
theorem dX3_goesRound_124 : decode cX3_goesRound 124 = .ok (.bipush 81, 2) := dk_16 81 (dk_at dksX3_goesRound_5 8 rfl rfl)
theorem dX3_goesRound_126 : decode cX3_goesRound 126 = .ok (.iload_n 2, 1) := dk_28 (dk_at dksX3_goesRound_5 10 rfl rfl)
theorem dX3_goesRound_127 : decode cX3_goesRound 127 = .ok (.iadd, 1) := dk_96 (dk_at dksX3_goesRound_5 11 rfl rfl)
theorem dX3_goesRound_128 : decode cX3_goesRound 128 = .ok (.iload_n 3, 1) := dk_29 (dk_at dksX3_goesRound_5 12 rfl rfl)
theorem dX3_goesRound_129 : decode cX3_goesRound 129 = .ok (.iastore, 1) := dk_79 (dk_at dksX3_goesRound_5 13 rfl rfl)
theorem dX3_goesRound_130 : decode cX3_goesRound 130 = .ok (.iinc 2 1, 3) := dk_132 2 1 (dk_at dksX3_goesRound_5 14 rfl rfl)
theorem dX3_goesRound_133 : decode cX3_goesRound 133 = .ok (.goto (-53), 3) := dk_167 255 203 (dk_at dksX3_goesRound_5 17 rfl rfl)
theorem dX3_goesRound_136 : decode cX3_goesRound 136 = .ok (.iconst 0, 1) := dk_3 (dk_at dksX3_goesRound_5 20 rfl rfl)
theorem dX3_goesRound_137 : decode cX3_goesRound 137 = .ok (.istore_n 2, 1) := dk_61 (dk_at dksX3_goesRound_5 21 rfl rfl)
theorem dX3_goesRound_138 : decode cX3_goesRound 138 = .ok (.iload_n 2, 1) := dk_28 (dk_at dksX3_goesRound_5 22 rfl rfl)
theorem dX3_goesRound_139 : decode cX3_goesRound 139 = .ok (.iload_n 1, 1) := dk_27 (dk_at dksX3_goesRound_5 23 rfl rfl)
theorem dX3_goesRound_140 : decode cX3_goesRound 140 = .ok (.if_icmp .ge 85, 3) := dk_162 0 85 (dk_at dksX3_goesRound_6 0 rfl rfl)
theorem dX3_goesRound_143 : decode cX3_goesRound 143 = .ok (.aload_n 0, 1) := dk_42 (dk_at dksX3_goesRound_6 3 rfl rfl)
theorem dX3_goesRound_144 : decode cX3_goesRound 144 = .ok (.iload_n 2, 1) := dk_28 (dk_at dksX3_goesRound_6 4 rfl rfl)
theorem dX3_goesRound_145 : decode cX3_goesRound 145 = .ok (.invokevirtual 113, 3) := dk_182 0 113 (dk_at dksX3_goesRound_6 5 rfl rfl)
theorem dX3_goesRound_148 : decode cX3_goesRound 148 = .ok (.ifCond .le 6, 3) := dk_158 0 6 (dk_at dksX3_goesRound_6 8 rfl rfl)
theorem dX3_goesRound_151 : decode cX3_goesRound 151 = .ok (.goto 68, 3) := dk_167 0 68 (dk_at dksX3_goesRound_6 11 rfl rfl)
theorem dX3_goesRound_154 : decode cX3_goesRound 154 = .ok (.aload_n 0, 1) := dk_42 (dk_at dksX3_goesRound_6 14 rfl rfl)
theorem dX3_goesRound_155 : decode cX3_goesRound 155 = .ok (.invokevirtual 119, 3) := dk_182 0 119 (dk_at dksX3_goesRound_6 15 rfl rfl)
theorem dX3_goesRound_158 : decode cX3_goesRound 158 = .ok (.istore_n 3, 1) := dk_62 (dk_at dksX3_goesRound_6 18 rfl rfl)
theorem dX3_goesRound_159 : decode cX3_goesRound 159 = .ok (.iload_n 3, 1) := dk_29 (dk_at dksX3_goesRound_6 19 rfl rfl)
theorem dX3_goesRound_160 : decode cX3_goesRound 160 = .ok (.iconst (-1), 1) := dk_2 (dk_at dksX3_goesRound_6 20 rfl rfl)
theorem dX3_goesRound_161 : decode cX3_goesRound 161 = .ok (.if_icmp .ne 6, 3) := dk_160 0 6 (dk_at dksX3_goesRound_6 21 rfl rfl)
theorem dX3_goesRound_164 : decode cX3_goesRound 164 = .ok (.goto 55, 3) := dk_167 0 55 (dk_at dksX3_goesRound_7 0 rfl rfl)
theorem dX3_goesRound_167 : decode cX3_goesRound 167 = .ok (.aload_n 0, 1) := dk_42 (dk_at dksX3_goesRound_7 3 rfl rfl)
theorem dX3_goesRound_168 : decode cX3_goesRound 168 = .ok (.iload_n 3, 1) := dk_29 (dk_at dksX3_goesRound_7 4 rfl rfl)
theorem dX3_goesRound_169 : decode cX3_goesRound 169 = .ok (.iload_n 2, 1) := dk_28 (dk_at dksX3_goesRound_7 5 rfl rfl)
theorem dX3_goesRound_170 : decode cX3_goesRound 170 = .ok (.invokevirtual 109, 3) := dk_182 0 109 (dk_at dksX3_goesRound_7 6 rfl rfl)
theorem dX3_goesRound_173 : decode cX3_goesRound 173 = .ok (.aload_n 0, 1) := dk_42 (dk_at dksX3_goesRound_7 9 rfl rfl)
theorem dX3_goesRound_174 : decode cX3_goesRound 174 = .ok (.getfield 7, 3) := dk_180 0 7 (dk_at dksX3_goesRound_7 10 rfl rfl)
theorem dX3_goesRound_177 : decode cX3_goesRound 177 = .ok (.bipush 81, 2) := dk_16 81 (dk_at dksX3_goesRound_7 13 rfl rfl)
theorem dX3_goesRound_179 : decode cX3_goesRound 179 = .ok (.iload_n 2, 1) := dk_28 (dk_at dksX3_goesRound_7 15 rfl rfl)
theorem dX3_goesRound_180 : decode cX3_goesRound 180 = .ok (.iadd, 1) := dk_96 (dk_at dksX3_goesRound_7 16 rfl rfl)
theorem dX3_goesRound_181 : decode cX3_goesRound 181 = .ok (.aload_n 0, 1) := dk_42 (dk_at dksX3_goesRound_7 17 rfl rfl)
theorem dX3_goesRound_182 : decode cX3_goesRound 182 = .ok (.getfield 7, 3) := dk_180 0 7 (dk_at dksX3_goesRound_7 18 rfl rfl)
theorem dX3_goesRound_185 : decode cX3_goesRound 185 = .ok (.bipush 9, 2) := dk_16 9 (dk_at dksX3_goesRound_7 21 rfl rfl)
theorem dX3_goesRound_187 : decode cX3_goesRound 187 = .ok (.iload_n 3, 1) := dk_29 (dk_at dksX3_goesRound_7 23 rfl rfl)
theorem dX3_goesRound_188 : decode cX3_goesRound 188 = .ok (.iadd, 1) := dk_96 (dk_at dksX3_goesRound_8 0 rfl rfl)
theorem dX3_goesRound_189 : decode cX3_goesRound 189 = .ok (.iaload, 1) := dk_46 (dk_at dksX3_goesRound_8 1 rfl rfl)
theorem dX3_goesRound_190 : decode cX3_goesRound 190 = .ok (.iastore, 1) := dk_79 (dk_at dksX3_goesRound_8 2 rfl rfl)
theorem dX3_goesRound_191 : decode cX3_goesRound 191 = .ok (.aload_n 0, 1) := dk_42 (dk_at dksX3_goesRound_8 3 rfl rfl)
theorem dX3_goesRound_192 : decode cX3_goesRound 192 = .ok (.getfield 7, 3) := dk_180 0 7 (dk_at dksX3_goesRound_8 4 rfl rfl)
theorem dX3_goesRound_195 : decode cX3_goesRound 195 = .ok (.bipush 87, 2) := dk_16 87 (dk_at dksX3_goesRound_8 7 rfl rfl)
theorem dX3_goesRound_197 : decode cX3_goesRound 197 = .ok (.iload_n 2, 1) := dk_28 (dk_at dksX3_goesRound_8 9 rfl rfl)
theorem dX3_goesRound_198 : decode cX3_goesRound 198 = .ok (.iadd, 1) := dk_96 (dk_at dksX3_goesRound_8 10 rfl rfl)
theorem dX3_goesRound_199 : decode cX3_goesRound 199 = .ok (.aload_n 0, 1) := dk_42 (dk_at dksX3_goesRound_8 11 rfl rfl)
theorem dX3_goesRound_200 : decode cX3_goesRound 200 = .ok (.getfield 7, 3) := dk_180 0 7 (dk_at dksX3_goesRound_8 12 rfl rfl)
theorem dX3_goesRound_203 : decode cX3_goesRound 203 = .ok (.bipush 27, 2) := dk_16 27 (dk_at dksX3_goesRound_8 15 rfl rfl)
theorem dX3_goesRound_205 : decode cX3_goesRound 205 = .ok (.iload_n 3, 1) := dk_29 (dk_at dksX3_goesRound_8 17 rfl rfl)
theorem dX3_goesRound_206 : decode cX3_goesRound 206 = .ok (.iadd, 1) := dk_96 (dk_at dksX3_goesRound_8 18 rfl rfl)
theorem dX3_goesRound_207 : decode cX3_goesRound 207 = .ok (.iaload, 1) := dk_46 (dk_at dksX3_goesRound_8 19 rfl rfl)
theorem dX3_goesRound_208 : decode cX3_goesRound 208 = .ok (.iastore, 1) := dk_79 (dk_at dksX3_goesRound_8 20 rfl rfl)
theorem dX3_goesRound_209 : decode cX3_goesRound 209 = .ok (.aload_n 0, 1) := dk_42 (dk_at dksX3_goesRound_8 21 rfl rfl)
theorem dX3_goesRound_210 : decode cX3_goesRound 210 = .ok (.getfield 7, 3) := dk_180 0 7 (dk_at dksX3_goesRound_9 0 rfl rfl)
theorem dX3_goesRound_213 : decode cX3_goesRound 213 = .ok (.iconst 3, 1) := dk_6 (dk_at dksX3_goesRound_9 3 rfl rfl)
theorem dX3_goesRound_214 : decode cX3_goesRound 214 = .ok (.dup2, 1) := dk_92 (dk_at dksX3_goesRound_9 4 rfl rfl)
theorem dX3_goesRound_215 : decode cX3_goesRound 215 = .ok (.iaload, 1) := dk_46 (dk_at dksX3_goesRound_9 5 rfl rfl)
theorem dX3_goesRound_216 : decode cX3_goesRound 216 = .ok (.iconst 1, 1) := dk_4 (dk_at dksX3_goesRound_9 6 rfl rfl)
theorem dX3_goesRound_217 : decode cX3_goesRound 217 = .ok (.iadd, 1) := dk_96 (dk_at dksX3_goesRound_9 7 rfl rfl)
theorem dX3_goesRound_218 : decode cX3_goesRound 218 = .ok (.iastore, 1) := dk_79 (dk_at dksX3_goesRound_9 8 rfl rfl)
theorem dX3_goesRound_219 : decode cX3_goesRound 219 = .ok (.iinc 2 1, 3) := dk_132 2 1 (dk_at dksX3_goesRound_9 9 rfl rfl)
theorem dX3_goesRound_222 : decode cX3_goesRound 222 = .ok (.goto (-84), 3) := dk_167 255 172 (dk_at dksX3_goesRound_9 12 rfl rfl)
theorem dX3_goesRound_225 : decode cX3_goesRound 225 = .ok (.aload_n 0, 1) := dk_42 (dk_at dksX3_goesRound_9 15 rfl rfl)
theorem dX3_goesRound_226 : decode cX3_goesRound 226 = .ok (.getfield 7, 3) := dk_180 0 7 (dk_at dksX3_goesRound_9 16 rfl rfl)
theorem dX3_goesRound_229 : decode cX3_goesRound 229 = .ok (.iconst 2, 1) := dk_5 (dk_at dksX3_goesRound_9 19 rfl rfl)
theorem dX3_goesRound_230 : decode cX3_goesRound 230 = .ok (.dup2, 1) := dk_92 (dk_at dksX3_goesRound_9 20 rfl rfl)
theorem dX3_goesRound_231 : decode cX3_goesRound 231 = .ok (.iaload, 1) := dk_46 (dk_at dksX3_goesRound_9 21 rfl rfl)
theorem dX3_goesRound_232 : decode cX3_goesRound 232 = .ok (.iconst 1, 1) := dk_4 (dk_at dksX3_goesRound_9 22 rfl rfl)
theorem dX3_goesRound_233 : decode cX3_goesRound 233 = .ok (.iadd, 1) := dk_96 (dk_at dksX3_goesRound_9 23 rfl rfl)
theorem dX3_goesRound_234 : decode cX3_goesRound 234 = .ok (.iastore, 1) := dk_79 (dk_at dksX3_goesRound_10 0 rfl rfl)
theorem dX3_goesRound_235 : decode cX3_goesRound 235 = .ok (.iconst 0, 1) := dk_3 (dk_at dksX3_goesRound_10 1 rfl rfl)
theorem dX3_goesRound_236 : decode cX3_goesRound 236 = .ok (.istore_n 2, 1) := dk_61 (dk_at dksX3_goesRound_10 2 rfl rfl)
theorem dX3_goesRound_237 : decode cX3_goesRound 237 = .ok (.iconst 0, 1) := dk_3 (dk_at dksX3_goesRound_10 3 rfl rfl)
theorem dX3_goesRound_238 : decode cX3_goesRound 238 = .ok (.istore_n 3, 1) := dk_62 (dk_at dksX3_goesRound_10 4 rfl rfl)
theorem dX3_goesRound_239 : decode cX3_goesRound 239 = .ok (.iload_n 3, 1) := dk_29 (dk_at dksX3_goesRound_10 5 rfl rfl)
theorem dX3_goesRound_240 : decode cX3_goesRound 240 = .ok (.iload_n 1, 1) := dk_27 (dk_at dksX3_goesRound_10 6 rfl rfl)
theorem dX3_goesRound_241 : decode cX3_goesRound 241 = .ok (.if_icmp .ge 53, 3) := dk_162 0 53 (dk_at dksX3_goesRound_10 7 rfl rfl)
theorem dX3_goesRound_244 : decode cX3_goesRound 244 = .ok (.iload_n 2, 1) := dk_28 (dk_at dksX3_goesRound_10 10 rfl rfl)
theorem dX3_goesRound_245 : decode cX3_goesRound 245 = .ok (.aload_n 0, 1) := dk_42 (dk_at dksX3_goesRound_10 11 rfl rfl)
theorem dX3_goesRound_246 : decode cX3_goesRound 246 = .ok (.getfield 7, 3) := dk_180 0 7 (dk_at dksX3_goesRound_10 12 rfl rfl)
theorem dX3_goesRound_249 : decode cX3_goesRound 249 = .ok (.bipush 81, 2) := dk_16 81 (dk_at dksX3_goesRound_10 15 rfl rfl)
theorem dX3_goesRound_251 : decode cX3_goesRound 251 = .ok (.iload_n 3, 1) := dk_29 (dk_at dksX3_goesRound_10 17 rfl rfl)
theorem dX3_goesRound_252 : decode cX3_goesRound 252 = .ok (.iadd, 1) := dk_96 (dk_at dksX3_goesRound_10 18 rfl rfl)
theorem dX3_goesRound_253 : decode cX3_goesRound 253 = .ok (.iaload, 1) := dk_46 (dk_at dksX3_goesRound_10 19 rfl rfl)
theorem dX3_goesRound_254 : decode cX3_goesRound 254 = .ok (.aload_n 0, 1) := dk_42 (dk_at dksX3_goesRound_10 20 rfl rfl)
theorem dX3_goesRound_255 : decode cX3_goesRound 255 = .ok (.getfield 37, 3) := dk_180 0 37 (dk_at dksX3_goesRound_10 21 rfl rfl)
theorem dX3_goesRound_258 : decode cX3_goesRound 258 = .ok (.iload_n 3, 1) := dk_29 (dk_at dksX3_goesRound_11 0 rfl rfl)
theorem dX3_goesRound_259 : decode cX3_goesRound 259 = .ok (.iaload, 1) := dk_46 (dk_at dksX3_goesRound_11 1 rfl rfl)
theorem dX3_goesRound_260 : decode cX3_goesRound 260 = .ok (.if_icmp .ne 25, 3) := dk_160 0 25 (dk_at dksX3_goesRound_11 2 rfl rfl)
theorem dX3_goesRound_263 : decode cX3_goesRound 263 = .ok (.aload_n 0, 1) := dk_42 (dk_at dksX3_goesRound_11 5 rfl rfl)
theorem dX3_goesRound_264 : decode cX3_goesRound 264 = .ok (.getfield 7, 3) := dk_180 0 7 (dk_at dksX3_goesRound_11 6 rfl rfl)
theorem dX3_goesRound_267 : decode cX3_goesRound 267 = .ok (.bipush 87, 2) := dk_16 87 (dk_at dksX3_goesRound_11 9 rfl rfl)
theorem dX3_goesRound_269 : decode cX3_goesRound 269 = .ok (.iload_n 3, 1) := dk_29 (dk_at dksX3_goesRound_11 11 rfl rfl)
theorem dX3_goesRound_270 : decode cX3_goesRound 270 = .ok (.iadd, 1) := dk_96 (dk_at dksX3_goesRound_11 12 rfl rfl)
theorem dX3_goesRound_271 : decode cX3_goesRound 271 = .ok (.iaload, 1) := dk_46 (dk_at dksX3_goesRound_11 13 rfl rfl)
theorem dX3_goesRound_272 : decode cX3_goesRound 272 = .ok (.aload_n 0, 1) := dk_42 (dk_at dksX3_goesRound_11 14 rfl rfl)
theorem dX3_goesRound_273 : decode cX3_goesRound 273 = .ok (.getfield 40, 3) := dk_180 0 40 (dk_at dksX3_goesRound_11 15 rfl rfl)
theorem dX3_goesRound_276 : decode cX3_goesRound 276 = .ok (.iload_n 3, 1) := dk_29 (dk_at dksX3_goesRound_11 18 rfl rfl)
theorem dX3_goesRound_277 : decode cX3_goesRound 277 = .ok (.iaload, 1) := dk_46 (dk_at dksX3_goesRound_11 19 rfl rfl)
theorem dX3_goesRound_278 : decode cX3_goesRound 278 = .ok (.if_icmp .ne 7, 3) := dk_160 0 7 (dk_at dksX3_goesRound_11 20 rfl rfl)
theorem dX3_goesRound_281 : decode cX3_goesRound 281 = .ok (.iconst 0, 1) := dk_3 (dk_at dksX3_goesRound_11 23 rfl rfl)
theorem dX3_goesRound_282 : decode cX3_goesRound 282 = .ok (.goto 4, 3) := dk_167 0 4 (dk_at dksX3_goesRound_12 0 rfl rfl)
theorem dX3_goesRound_285 : decode cX3_goesRound 285 = .ok (.iconst 1, 1) := dk_4 (dk_at dksX3_goesRound_12 3 rfl rfl)
theorem dX3_goesRound_286 : decode cX3_goesRound 286 = .ok (.iadd, 1) := dk_96 (dk_at dksX3_goesRound_12 4 rfl rfl)
theorem dX3_goesRound_287 : decode cX3_goesRound 287 = .ok (.istore_n 2, 1) := dk_61 (dk_at dksX3_goesRound_12 5 rfl rfl)
theorem dX3_goesRound_288 : decode cX3_goesRound 288 = .ok (.iinc 3 1, 3) := dk_132 3 1 (dk_at dksX3_goesRound_12 6 rfl rfl)
theorem dX3_goesRound_291 : decode cX3_goesRound 291 = .ok (.goto (-52), 3) := dk_167 255 204 (dk_at dksX3_goesRound_12 9 rfl rfl)
theorem dX3_goesRound_294 : decode cX3_goesRound 294 = .ok (.iload_n 2, 1) := dk_28 (dk_at dksX3_goesRound_12 12 rfl rfl)
theorem dX3_goesRound_295 : decode cX3_goesRound 295 = .ok (.ireturn, 1) := dk_172 (dk_at dksX3_goesRound_12 13 rfl rfl)
abbrev cX3_belongs : ByteArray := prog_14_method_26_code
def yX3_belongs : MethodName := ⟨RX3, "belongs", "(II)V"⟩
def dkwX3_belongs_1 : List UInt8 := [4, 96, 79, 42, 180, 0, 7, 16, 63, 27, 96, 28, 79, 177]
abbrev dktX3_belongs_1 : List UInt8 := dkwX3_belongs_1 ++ []
def dkwX3_belongs_0 : List UInt8 := [42, 180, 0, 7, 8, 92, 46, 42, 180, 0, 7, 16, 63, 27, 96, 46, 28, 160, 0, 7, 3, 167, 0, 4]
abbrev dktX3_belongs_0 : List UInt8 := dkwX3_belongs_0 ++ dktX3_belongs_1
theorem dksX3_belongs_0 : cX3_belongs.data.toList.drop 0 = dktX3_belongs_0 := by decide +kernel
theorem dksX3_belongs_1 : cX3_belongs.data.toList.drop 24 = dktX3_belongs_1 := dk_seg dksX3_belongs_0 24 rfl rfl
theorem dX3_belongs_0 : decode cX3_belongs 0 = .ok (.aload_n 0, 1) := dk_42 (dk_at dksX3_belongs_0 0 rfl rfl)
theorem dX3_belongs_1 : decode cX3_belongs 1 = .ok (.getfield 7, 3) := dk_180 0 7 (dk_at dksX3_belongs_0 1 rfl rfl)
theorem dX3_belongs_4 : decode cX3_belongs 4 = .ok (.iconst 5, 1) := dk_8 (dk_at dksX3_belongs_0 4 rfl rfl)
theorem dX3_belongs_5 : decode cX3_belongs 5 = .ok (.dup2, 1) := dk_92 (dk_at dksX3_belongs_0 5 rfl rfl)
theorem dX3_belongs_6 : decode cX3_belongs 6 = .ok (.iaload, 1) := dk_46 (dk_at dksX3_belongs_0 6 rfl rfl)
theorem dX3_belongs_7 : decode cX3_belongs 7 = .ok (.aload_n 0, 1) := dk_42 (dk_at dksX3_belongs_0 7 rfl rfl)
theorem dX3_belongs_8 : decode cX3_belongs 8 = .ok (.getfield 7, 3) := dk_180 0 7 (dk_at dksX3_belongs_0 8 rfl rfl)
theorem dX3_belongs_11 : decode cX3_belongs 11 = .ok (.bipush 63, 2) := dk_16 63 (dk_at dksX3_belongs_0 11 rfl rfl)
theorem dX3_belongs_13 : decode cX3_belongs 13 = .ok (.iload_n 1, 1) := dk_27 (dk_at dksX3_belongs_0 13 rfl rfl)
theorem dX3_belongs_14 : decode cX3_belongs 14 = .ok (.iadd, 1) := dk_96 (dk_at dksX3_belongs_0 14 rfl rfl)
theorem dX3_belongs_15 : decode cX3_belongs 15 = .ok (.iaload, 1) := dk_46 (dk_at dksX3_belongs_0 15 rfl rfl)
theorem dX3_belongs_16 : decode cX3_belongs 16 = .ok (.iload_n 2, 1) := dk_28 (dk_at dksX3_belongs_0 16 rfl rfl)
theorem dX3_belongs_17 : decode cX3_belongs 17 = .ok (.if_icmp .ne 7, 3) := dk_160 0 7 (dk_at dksX3_belongs_0 17 rfl rfl)
theorem dX3_belongs_20 : decode cX3_belongs 20 = .ok (.iconst 0, 1) := dk_3 (dk_at dksX3_belongs_0 20 rfl rfl)
theorem dX3_belongs_21 : decode cX3_belongs 21 = .ok (.goto 4, 3) := dk_167 0 4 (dk_at dksX3_belongs_0 21 rfl rfl)
theorem dX3_belongs_24 : decode cX3_belongs 24 = .ok (.iconst 1, 1) := dk_4 (dk_at dksX3_belongs_1 0 rfl rfl)
theorem dX3_belongs_25 : decode cX3_belongs 25 = .ok (.iadd, 1) := dk_96 (dk_at dksX3_belongs_1 1 rfl rfl)
theorem dX3_belongs_26 : decode cX3_belongs 26 = .ok (.iastore, 1) := dk_79 (dk_at dksX3_belongs_1 2 rfl rfl)
theorem dX3_belongs_27 : decode cX3_belongs 27 = .ok (.aload_n 0, 1) := dk_42 (dk_at dksX3_belongs_1 3 rfl rfl)
theorem dX3_belongs_28 : decode cX3_belongs 28 = .ok (.getfield 7, 3) := dk_180 0 7 (dk_at dksX3_belongs_1 4 rfl rfl)
theorem dX3_belongs_31 : decode cX3_belongs 31 = .ok (.bipush 63, 2) := dk_16 63 (dk_at dksX3_belongs_1 7 rfl rfl)
theorem dX3_belongs_33 : decode cX3_belongs 33 = .ok (.iload_n 1, 1) := dk_27 (dk_at dksX3_belongs_1 9 rfl rfl)
theorem dX3_belongs_34 : decode cX3_belongs 34 = .ok (.iadd, 1) := dk_96 (dk_at dksX3_belongs_1 10 rfl rfl)
theorem dX3_belongs_35 : decode cX3_belongs 35 = .ok (.iload_n 2, 1) := dk_28 (dk_at dksX3_belongs_1 11 rfl rfl)
theorem dX3_belongs_36 : decode cX3_belongs 36 = .ok (.iastore, 1) := dk_79 (dk_at dksX3_belongs_1 12 rfl rfl)
theorem dX3_belongs_37 : decode cX3_belongs 37 = .ok (.return_, 1) := dk_177 (dk_at dksX3_belongs_1 13 rfl rfl)
abbrev cX3_middle : ByteArray := prog_14_method_25_code
def yX3_middle : MethodName := ⟨RX3, "middle", "(II)I"⟩
def dkwX3_middle_3 : List UInt8 := [172]
abbrev dktX3_middle_3 : List UInt8 := dkwX3_middle_3 ++ []
def dkwX3_middle_2 : List UInt8 := [21, 4, 96, 46, 104, 167, 0, 4, 3, 96, 62, 132, 4, 1, 167, 255, 201, 29, 42, 27, 182, 0, 106, 108]
abbrev dktX3_middle_2 : List UInt8 := dkwX3_middle_2 ++ dktX3_middle_3
def dkwX3_middle_1 : List UInt8 := [21, 4, 96, 46, 27, 160, 0, 26, 42, 180, 0, 7, 16, 45, 21, 4, 96, 46, 42, 180, 0, 7, 28]
abbrev dktX3_middle_1 : List UInt8 := dkwX3_middle_1 ++ dktX3_middle_2
def dkwX3_middle_0 : List UInt8 := [3, 62, 3, 54, 4, 21, 4, 42, 180, 0, 7, 3, 46, 162, 0, 50, 29, 42, 180, 0, 7, 16, 63]
abbrev dktX3_middle_0 : List UInt8 := dkwX3_middle_0 ++ dktX3_middle_1
theorem dksX3_middle_0 : cX3_middle.data.toList.drop 0 = dktX3_middle_0 := by decide +kernel
theorem dksX3_middle_1 : cX3_middle.data.toList.drop 23 = dktX3_middle_1 := dk_seg dksX3_middle_0 23 rfl rfl
theorem dksX3_middle_2 : cX3_middle.data.toList.drop 46 = dktX3_middle_2 := dk_seg dksX3_middle_1 23 rfl rfl
theorem dksX3_middle_3 : cX3_middle.data.toList.drop 70 = dktX3_middle_3 := dk_seg dksX3_middle_2 24 rfl rfl
theorem dX3_middle_0 : decode cX3_middle 0 = .ok (.iconst 0, 1) := dk_3 (dk_at dksX3_middle_0 0 rfl rfl)
theorem dX3_middle_1 : decode cX3_middle 1 = .ok (.istore_n 3, 1) := dk_62 (dk_at dksX3_middle_0 1 rfl rfl)
theorem dX3_middle_2 : decode cX3_middle 2 = .ok (.iconst 0, 1) := dk_3 (dk_at dksX3_middle_0 2 rfl rfl)
theorem dX3_middle_3 : decode cX3_middle 3 = .ok (.istore 4, 2) := dk_54 4 (dk_at dksX3_middle_0 3 rfl rfl)
theorem dX3_middle_5 : decode cX3_middle 5 = .ok (.iload 4, 2) := dk_21 4 (dk_at dksX3_middle_0 5 rfl rfl)
theorem dX3_middle_7 : decode cX3_middle 7 = .ok (.aload_n 0, 1) := dk_42 (dk_at dksX3_middle_0 7 rfl rfl)
theorem dX3_middle_8 : decode cX3_middle 8 = .ok (.getfield 7, 3) := dk_180 0 7 (dk_at dksX3_middle_0 8 rfl rfl)
theorem dX3_middle_11 : decode cX3_middle 11 = .ok (.iconst 0, 1) := dk_3 (dk_at dksX3_middle_0 11 rfl rfl)
theorem dX3_middle_12 : decode cX3_middle 12 = .ok (.iaload, 1) := dk_46 (dk_at dksX3_middle_0 12 rfl rfl)
theorem dX3_middle_13 : decode cX3_middle 13 = .ok (.if_icmp .ge 50, 3) := dk_162 0 50 (dk_at dksX3_middle_0 13 rfl rfl)
theorem dX3_middle_16 : decode cX3_middle 16 = .ok (.iload_n 3, 1) := dk_29 (dk_at dksX3_middle_0 16 rfl rfl)
theorem dX3_middle_17 : decode cX3_middle 17 = .ok (.aload_n 0, 1) := dk_42 (dk_at dksX3_middle_0 17 rfl rfl)
theorem dX3_middle_18 : decode cX3_middle 18 = .ok (.getfield 7, 3) := dk_180 0 7 (dk_at dksX3_middle_0 18 rfl rfl)
theorem dX3_middle_21 : decode cX3_middle 21 = .ok (.bipush 63, 2) := dk_16 63 (dk_at dksX3_middle_0 21 rfl rfl)
theorem dX3_middle_23 : decode cX3_middle 23 = .ok (.iload 4, 2) := dk_21 4 (dk_at dksX3_middle_1 0 rfl rfl)
theorem dX3_middle_25 : decode cX3_middle 25 = .ok (.iadd, 1) := dk_96 (dk_at dksX3_middle_1 2 rfl rfl)
theorem dX3_middle_26 : decode cX3_middle 26 = .ok (.iaload, 1) := dk_46 (dk_at dksX3_middle_1 3 rfl rfl)
theorem dX3_middle_27 : decode cX3_middle 27 = .ok (.iload_n 1, 1) := dk_27 (dk_at dksX3_middle_1 4 rfl rfl)
theorem dX3_middle_28 : decode cX3_middle 28 = .ok (.if_icmp .ne 26, 3) := dk_160 0 26 (dk_at dksX3_middle_1 5 rfl rfl)
theorem dX3_middle_31 : decode cX3_middle 31 = .ok (.aload_n 0, 1) := dk_42 (dk_at dksX3_middle_1 8 rfl rfl)
theorem dX3_middle_32 : decode cX3_middle 32 = .ok (.getfield 7, 3) := dk_180 0 7 (dk_at dksX3_middle_1 9 rfl rfl)
theorem dX3_middle_35 : decode cX3_middle 35 = .ok (.bipush 45, 2) := dk_16 45 (dk_at dksX3_middle_1 12 rfl rfl)
theorem dX3_middle_37 : decode cX3_middle 37 = .ok (.iload 4, 2) := dk_21 4 (dk_at dksX3_middle_1 14 rfl rfl)
theorem dX3_middle_39 : decode cX3_middle 39 = .ok (.iadd, 1) := dk_96 (dk_at dksX3_middle_1 16 rfl rfl)
theorem dX3_middle_40 : decode cX3_middle 40 = .ok (.iaload, 1) := dk_46 (dk_at dksX3_middle_1 17 rfl rfl)
theorem dX3_middle_41 : decode cX3_middle 41 = .ok (.aload_n 0, 1) := dk_42 (dk_at dksX3_middle_1 18 rfl rfl)
theorem dX3_middle_42 : decode cX3_middle 42 = .ok (.getfield 7, 3) := dk_180 0 7 (dk_at dksX3_middle_1 19 rfl rfl)
theorem dX3_middle_45 : decode cX3_middle 45 = .ok (.iload_n 2, 1) := dk_28 (dk_at dksX3_middle_1 22 rfl rfl)
theorem dX3_middle_46 : decode cX3_middle 46 = .ok (.iload 4, 2) := dk_21 4 (dk_at dksX3_middle_2 0 rfl rfl)
theorem dX3_middle_48 : decode cX3_middle 48 = .ok (.iadd, 1) := dk_96 (dk_at dksX3_middle_2 2 rfl rfl)
theorem dX3_middle_49 : decode cX3_middle 49 = .ok (.iaload, 1) := dk_46 (dk_at dksX3_middle_2 3 rfl rfl)
theorem dX3_middle_50 : decode cX3_middle 50 = .ok (.imul, 1) := dk_104 (dk_at dksX3_middle_2 4 rfl rfl)
theorem dX3_middle_51 : decode cX3_middle 51 = .ok (.goto 4, 3) := dk_167 0 4 (dk_at dksX3_middle_2 5 rfl rfl)
theorem dX3_middle_54 : decode cX3_middle 54 = .ok (.iconst 0, 1) := dk_3 (dk_at dksX3_middle_2 8 rfl rfl)
theorem dX3_middle_55 : decode cX3_middle 55 = .ok (.iadd, 1) := dk_96 (dk_at dksX3_middle_2 9 rfl rfl)
theorem dX3_middle_56 : decode cX3_middle 56 = .ok (.istore_n 3, 1) := dk_62 (dk_at dksX3_middle_2 10 rfl rfl)
theorem dX3_middle_57 : decode cX3_middle 57 = .ok (.iinc 4 1, 3) := dk_132 4 1 (dk_at dksX3_middle_2 11 rfl rfl)
theorem dX3_middle_60 : decode cX3_middle 60 = .ok (.goto (-55), 3) := dk_167 255 201 (dk_at dksX3_middle_2 14 rfl rfl)
theorem dX3_middle_63 : decode cX3_middle 63 = .ok (.iload_n 3, 1) := dk_29 (dk_at dksX3_middle_2 17 rfl rfl)
theorem dX3_middle_64 : decode cX3_middle 64 = .ok (.aload_n 0, 1) := dk_42 (dk_at dksX3_middle_2 18 rfl rfl)
theorem dX3_middle_65 : decode cX3_middle 65 = .ok (.iload_n 1, 1) := dk_27 (dk_at dksX3_middle_2 19 rfl rfl)
theorem dX3_middle_66 : decode cX3_middle 66 = .ok (.invokevirtual 106, 3) := dk_182 0 106 (dk_at dksX3_middle_2 20 rfl rfl)
theorem dX3_middle_69 : decode cX3_middle 69 = .ok (.idiv, 1) := dk_108 (dk_at dksX3_middle_2 23 rfl rfl)
theorem dX3_middle_70 : decode cX3_middle 70 = .ok (.ireturn, 1) := dk_172 (dk_at dksX3_middle_3 0 rfl rfl)
abbrev cX3_outlier : ByteArray := prog_14_method_27_code
def yX3_outlier : MethodName := ⟨RX3, "outlier", "()I"⟩
def dkwX3_outlier_3 : List UInt8 := [164, 0, 8, 21, 5, 167, 0, 4, 28, 61, 132, 3, 1, 167, 255, 178, 27, 172]
abbrev dktX3_outlier_3 : List UInt8 := dkwX3_outlier_3 ++ []
def dkwX3_outlier_2 : List UInt8 := [21, 4, 182, 0, 93, 104, 54, 5, 21, 5, 28, 164, 0, 7, 29, 167, 0, 4, 27, 60, 21, 5, 28]
abbrev dktX3_outlier_2 : List UInt8 := dkwX3_outlier_2 ++ dktX3_outlier_3
def dkwX3_outlier_1 : List UInt8 := [46, 54, 4, 21, 4, 2, 160, 0, 7, 3, 167, 0, 20, 42, 180, 0, 7, 16, 45, 29, 96, 46, 42, 29]
abbrev dktX3_outlier_1 : List UInt8 := dkwX3_outlier_1 ++ dktX3_outlier_2
def dkwX3_outlier_0 : List UInt8 := [2, 60, 3, 61, 3, 62, 29, 42, 180, 0, 7, 3, 46, 162, 0, 74, 42, 180, 0, 7, 16, 63, 29, 96]
abbrev dktX3_outlier_0 : List UInt8 := dkwX3_outlier_0 ++ dktX3_outlier_1
theorem dksX3_outlier_0 : cX3_outlier.data.toList.drop 0 = dktX3_outlier_0 := by decide +kernel
theorem dksX3_outlier_1 : cX3_outlier.data.toList.drop 24 = dktX3_outlier_1 := dk_seg dksX3_outlier_0 24 rfl rfl
theorem dksX3_outlier_2 : cX3_outlier.data.toList.drop 48 = dktX3_outlier_2 := dk_seg dksX3_outlier_1 24 rfl rfl
theorem dksX3_outlier_3 : cX3_outlier.data.toList.drop 71 = dktX3_outlier_3 := dk_seg dksX3_outlier_2 23 rfl rfl
theorem dX3_outlier_0 : decode cX3_outlier 0 = .ok (.iconst (-1), 1) := dk_2 (dk_at dksX3_outlier_0 0 rfl rfl)
theorem dX3_outlier_1 : decode cX3_outlier 1 = .ok (.istore_n 1, 1) := dk_60 (dk_at dksX3_outlier_0 1 rfl rfl)
theorem dX3_outlier_2 : decode cX3_outlier 2 = .ok (.iconst 0, 1) := dk_3 (dk_at dksX3_outlier_0 2 rfl rfl)
theorem dX3_outlier_3 : decode cX3_outlier 3 = .ok (.istore_n 2, 1) := dk_61 (dk_at dksX3_outlier_0 3 rfl rfl)
theorem dX3_outlier_4 : decode cX3_outlier 4 = .ok (.iconst 0, 1) := dk_3 (dk_at dksX3_outlier_0 4 rfl rfl)
theorem dX3_outlier_5 : decode cX3_outlier 5 = .ok (.istore_n 3, 1) := dk_62 (dk_at dksX3_outlier_0 5 rfl rfl)
theorem dX3_outlier_6 : decode cX3_outlier 6 = .ok (.iload_n 3, 1) := dk_29 (dk_at dksX3_outlier_0 6 rfl rfl)
theorem dX3_outlier_7 : decode cX3_outlier 7 = .ok (.aload_n 0, 1) := dk_42 (dk_at dksX3_outlier_0 7 rfl rfl)
theorem dX3_outlier_8 : decode cX3_outlier 8 = .ok (.getfield 7, 3) := dk_180 0 7 (dk_at dksX3_outlier_0 8 rfl rfl)
theorem dX3_outlier_11 : decode cX3_outlier 11 = .ok (.iconst 0, 1) := dk_3 (dk_at dksX3_outlier_0 11 rfl rfl)
theorem dX3_outlier_12 : decode cX3_outlier 12 = .ok (.iaload, 1) := dk_46 (dk_at dksX3_outlier_0 12 rfl rfl)
theorem dX3_outlier_13 : decode cX3_outlier 13 = .ok (.if_icmp .ge 74, 3) := dk_162 0 74 (dk_at dksX3_outlier_0 13 rfl rfl)
theorem dX3_outlier_16 : decode cX3_outlier 16 = .ok (.aload_n 0, 1) := dk_42 (dk_at dksX3_outlier_0 16 rfl rfl)
theorem dX3_outlier_17 : decode cX3_outlier 17 = .ok (.getfield 7, 3) := dk_180 0 7 (dk_at dksX3_outlier_0 17 rfl rfl)
theorem dX3_outlier_20 : decode cX3_outlier 20 = .ok (.bipush 63, 2) := dk_16 63 (dk_at dksX3_outlier_0 20 rfl rfl)
theorem dX3_outlier_22 : decode cX3_outlier 22 = .ok (.iload_n 3, 1) := dk_29 (dk_at dksX3_outlier_0 22 rfl rfl)
theorem dX3_outlier_23 : decode cX3_outlier 23 = .ok (.iadd, 1) := dk_96 (dk_at dksX3_outlier_0 23 rfl rfl)
theorem dX3_outlier_24 : decode cX3_outlier 24 = .ok (.iaload, 1) := dk_46 (dk_at dksX3_outlier_1 0 rfl rfl)
theorem dX3_outlier_25 : decode cX3_outlier 25 = .ok (.istore 4, 2) := dk_54 4 (dk_at dksX3_outlier_1 1 rfl rfl)
theorem dX3_outlier_27 : decode cX3_outlier 27 = .ok (.iload 4, 2) := dk_21 4 (dk_at dksX3_outlier_1 3 rfl rfl)
theorem dX3_outlier_29 : decode cX3_outlier 29 = .ok (.iconst (-1), 1) := dk_2 (dk_at dksX3_outlier_1 5 rfl rfl)
theorem dX3_outlier_30 : decode cX3_outlier 30 = .ok (.if_icmp .ne 7, 3) := dk_160 0 7 (dk_at dksX3_outlier_1 6 rfl rfl)
theorem dX3_outlier_33 : decode cX3_outlier 33 = .ok (.iconst 0, 1) := dk_3 (dk_at dksX3_outlier_1 9 rfl rfl)
theorem dX3_outlier_34 : decode cX3_outlier 34 = .ok (.goto 20, 3) := dk_167 0 20 (dk_at dksX3_outlier_1 10 rfl rfl)
theorem dX3_outlier_37 : decode cX3_outlier 37 = .ok (.aload_n 0, 1) := dk_42 (dk_at dksX3_outlier_1 13 rfl rfl)
theorem dX3_outlier_38 : decode cX3_outlier 38 = .ok (.getfield 7, 3) := dk_180 0 7 (dk_at dksX3_outlier_1 14 rfl rfl)
theorem dX3_outlier_41 : decode cX3_outlier 41 = .ok (.bipush 45, 2) := dk_16 45 (dk_at dksX3_outlier_1 17 rfl rfl)
theorem dX3_outlier_43 : decode cX3_outlier 43 = .ok (.iload_n 3, 1) := dk_29 (dk_at dksX3_outlier_1 19 rfl rfl)
theorem dX3_outlier_44 : decode cX3_outlier 44 = .ok (.iadd, 1) := dk_96 (dk_at dksX3_outlier_1 20 rfl rfl)
theorem dX3_outlier_45 : decode cX3_outlier 45 = .ok (.iaload, 1) := dk_46 (dk_at dksX3_outlier_1 21 rfl rfl)
theorem dX3_outlier_46 : decode cX3_outlier 46 = .ok (.aload_n 0, 1) := dk_42 (dk_at dksX3_outlier_1 22 rfl rfl)
theorem dX3_outlier_47 : decode cX3_outlier 47 = .ok (.iload_n 3, 1) := dk_29 (dk_at dksX3_outlier_1 23 rfl rfl)
theorem dX3_outlier_48 : decode cX3_outlier 48 = .ok (.iload 4, 2) := dk_21 4 (dk_at dksX3_outlier_2 0 rfl rfl)
theorem dX3_outlier_50 : decode cX3_outlier 50 = .ok (.invokevirtual 93, 3) := dk_182 0 93 (dk_at dksX3_outlier_2 2 rfl rfl)
theorem dX3_outlier_53 : decode cX3_outlier 53 = .ok (.imul, 1) := dk_104 (dk_at dksX3_outlier_2 5 rfl rfl)
theorem dX3_outlier_54 : decode cX3_outlier 54 = .ok (.istore 5, 2) := dk_54 5 (dk_at dksX3_outlier_2 6 rfl rfl)
theorem dX3_outlier_56 : decode cX3_outlier 56 = .ok (.iload 5, 2) := dk_21 5 (dk_at dksX3_outlier_2 8 rfl rfl)
theorem dX3_outlier_58 : decode cX3_outlier 58 = .ok (.iload_n 2, 1) := dk_28 (dk_at dksX3_outlier_2 10 rfl rfl)
theorem dX3_outlier_59 : decode cX3_outlier 59 = .ok (.if_icmp .le 7, 3) := dk_164 0 7 (dk_at dksX3_outlier_2 11 rfl rfl)
theorem dX3_outlier_62 : decode cX3_outlier 62 = .ok (.iload_n 3, 1) := dk_29 (dk_at dksX3_outlier_2 14 rfl rfl)
theorem dX3_outlier_63 : decode cX3_outlier 63 = .ok (.goto 4, 3) := dk_167 0 4 (dk_at dksX3_outlier_2 15 rfl rfl)
theorem dX3_outlier_66 : decode cX3_outlier 66 = .ok (.iload_n 1, 1) := dk_27 (dk_at dksX3_outlier_2 18 rfl rfl)
theorem dX3_outlier_67 : decode cX3_outlier 67 = .ok (.istore_n 1, 1) := dk_60 (dk_at dksX3_outlier_2 19 rfl rfl)
theorem dX3_outlier_68 : decode cX3_outlier 68 = .ok (.iload 5, 2) := dk_21 5 (dk_at dksX3_outlier_2 20 rfl rfl)
theorem dX3_outlier_70 : decode cX3_outlier 70 = .ok (.iload_n 2, 1) := dk_28 (dk_at dksX3_outlier_2 22 rfl rfl)
theorem dX3_outlier_71 : decode cX3_outlier 71 = .ok (.if_icmp .le 8, 3) := dk_164 0 8 (dk_at dksX3_outlier_3 0 rfl rfl)
theorem dX3_outlier_74 : decode cX3_outlier 74 = .ok (.iload 5, 2) := dk_21 5 (dk_at dksX3_outlier_3 3 rfl rfl)
theorem dX3_outlier_76 : decode cX3_outlier 76 = .ok (.goto 4, 3) := dk_167 0 4 (dk_at dksX3_outlier_3 5 rfl rfl)
theorem dX3_outlier_79 : decode cX3_outlier 79 = .ok (.iload_n 2, 1) := dk_28 (dk_at dksX3_outlier_3 8 rfl rfl)
theorem dX3_outlier_80 : decode cX3_outlier 80 = .ok (.istore_n 2, 1) := dk_61 (dk_at dksX3_outlier_3 9 rfl rfl)
theorem dX3_outlier_81 : decode cX3_outlier 81 = .ok (.iinc 3 1, 3) := dk_132 3 1 (dk_at dksX3_outlier_3 10 rfl rfl)
theorem dX3_outlier_84 : decode cX3_outlier 84 = .ok (.goto (-78), 3) := dk_167 255 178 (dk_at dksX3_outlier_3 13 rfl rfl)
theorem dX3_outlier_87 : decode cX3_outlier 87 = .ok (.iload_n 1, 1) := dk_27 (dk_at dksX3_outlier_3 16 rfl rfl)
theorem dX3_outlier_88 : decode cX3_outlier 88 = .ok (.ireturn, 1) := dk_172 (dk_at dksX3_outlier_3 17 rfl rfl)
abbrev cX3_settle : ByteArray := prog_14_method_55_code
def yX3_settle : MethodName := ⟨RX3, "settle", "(I)I"⟩
def dkwX3_settle_0 : List UInt8 := [42, 182, 0, 149, 42, 42, 27, 182, 0, 182, 5, 182, 0, 155, 172]
abbrev dktX3_settle_0 : List UInt8 := dkwX3_settle_0 ++ []
theorem dksX3_settle_0 : cX3_settle.data.toList.drop 0 = dktX3_settle_0 := by decide +kernel
theorem dX3_settle_0 : decode cX3_settle 0 = .ok (.aload_n 0, 1) := dk_42 (dk_at dksX3_settle_0 0 rfl rfl)
theorem dX3_settle_1 : decode cX3_settle 1 = .ok (.invokevirtual 149, 3) := dk_182 0 149 (dk_at dksX3_settle_0 1 rfl rfl)
theorem dX3_settle_4 : decode cX3_settle 4 = .ok (.aload_n 0, 1) := dk_42 (dk_at dksX3_settle_0 4 rfl rfl)
theorem dX3_settle_5 : decode cX3_settle 5 = .ok (.aload_n 0, 1) := dk_42 (dk_at dksX3_settle_0 5 rfl rfl)
theorem dX3_settle_6 : decode cX3_settle 6 = .ok (.iload_n 1, 1) := dk_27 (dk_at dksX3_settle_0 6 rfl rfl)
theorem dX3_settle_7 : decode cX3_settle 7 = .ok (.invokevirtual 182, 3) := dk_182 0 182 (dk_at dksX3_settle_0 7 rfl rfl)
theorem dX3_settle_10 : decode cX3_settle 10 = .ok (.iconst 2, 1) := dk_5 (dk_at dksX3_settle_0 10 rfl rfl)
theorem dX3_settle_11 : decode cX3_settle 11 = .ok (.invokevirtual 155, 3) := dk_182 0 155 (dk_at dksX3_settle_0 11 rfl rfl)
theorem dX3_settle_14 : decode cX3_settle 14 = .ok (.ireturn, 1) := dk_172 (dk_at dksX3_settle_0 14 rfl rfl)
abbrev cX3_settles : ByteArray := prog_14_method_40_code
def yX3_settles : MethodName := ⟨RX3, "settles", "(I)I"⟩
def dkwX3_settles_3 : List UInt8 := [132, 2, 1, 167, 255, 236, 42, 28, 182, 0, 133, 172]
abbrev dktX3_settles_3 : List UInt8 := dkwX3_settles_3 ++ []
def dkwX3_settles_2 : List UInt8 := [182, 0, 130, 172, 3, 61, 28, 27, 162, 0, 21, 42, 182, 0, 145, 154, 0, 14, 42, 182, 0, 123, 62]
abbrev dktX3_settles_2 : List UInt8 := dkwX3_settles_2 ++ dktX3_settles_3
def dkwX3_settles_1 : List UInt8 := [180, 0, 7, 3, 46, 182, 0, 130, 172, 42, 182, 0, 145, 153, 0, 15, 42, 7, 42, 180, 0, 7, 5, 46]
abbrev dktX3_settles_1 : List UInt8 := dkwX3_settles_1 ++ dktX3_settles_2
def dkwX3_settles_0 : List UInt8 := [27, 4, 16, 30, 184, 0, 78, 154, 0, 5, 2, 172, 42, 180, 0, 7, 4, 46, 154, 0, 15, 42, 6, 42]
abbrev dktX3_settles_0 : List UInt8 := dkwX3_settles_0 ++ dktX3_settles_1
theorem dksX3_settles_0 : cX3_settles.data.toList.drop 0 = dktX3_settles_0 := by decide +kernel
theorem dksX3_settles_1 : cX3_settles.data.toList.drop 24 = dktX3_settles_1 := dk_seg dksX3_settles_0 24 rfl rfl
theorem dksX3_settles_2 : cX3_settles.data.toList.drop 48 = dktX3_settles_2 := dk_seg dksX3_settles_1 24 rfl rfl
theorem dksX3_settles_3 : cX3_settles.data.toList.drop 71 = dktX3_settles_3 := dk_seg dksX3_settles_2 23 rfl rfl
theorem dX3_settles_0 : decode cX3_settles 0 = .ok (.iload_n 1, 1) := dk_27 (dk_at dksX3_settles_0 0 rfl rfl)
theorem dX3_settles_1 : decode cX3_settles 1 = .ok (.iconst 1, 1) := dk_4 (dk_at dksX3_settles_0 1 rfl rfl)
theorem dX3_settles_2 : decode cX3_settles 2 = .ok (.bipush 30, 2) := dk_16 30 (dk_at dksX3_settles_0 2 rfl rfl)
theorem dX3_settles_4 : decode cX3_settles 4 = .ok (.invokestatic 78, 3) := dk_184 0 78 (dk_at dksX3_settles_0 4 rfl rfl)
theorem dX3_settles_7 : decode cX3_settles 7 = .ok (.ifCond .ne 5, 3) := dk_154 0 5 (dk_at dksX3_settles_0 7 rfl rfl)
theorem dX3_settles_10 : decode cX3_settles 10 = .ok (.iconst (-1), 1) := dk_2 (dk_at dksX3_settles_0 10 rfl rfl)
theorem dX3_settles_11 : decode cX3_settles 11 = .ok (.ireturn, 1) := dk_172 (dk_at dksX3_settles_0 11 rfl rfl)
theorem dX3_settles_12 : decode cX3_settles 12 = .ok (.aload_n 0, 1) := dk_42 (dk_at dksX3_settles_0 12 rfl rfl)
theorem dX3_settles_13 : decode cX3_settles 13 = .ok (.getfield 7, 3) := dk_180 0 7 (dk_at dksX3_settles_0 13 rfl rfl)
theorem dX3_settles_16 : decode cX3_settles 16 = .ok (.iconst 1, 1) := dk_4 (dk_at dksX3_settles_0 16 rfl rfl)
theorem dX3_settles_17 : decode cX3_settles 17 = .ok (.iaload, 1) := dk_46 (dk_at dksX3_settles_0 17 rfl rfl)
theorem dX3_settles_18 : decode cX3_settles 18 = .ok (.ifCond .ne 15, 3) := dk_154 0 15 (dk_at dksX3_settles_0 18 rfl rfl)
theorem dX3_settles_21 : decode cX3_settles 21 = .ok (.aload_n 0, 1) := dk_42 (dk_at dksX3_settles_0 21 rfl rfl)
theorem dX3_settles_22 : decode cX3_settles 22 = .ok (.iconst 3, 1) := dk_6 (dk_at dksX3_settles_0 22 rfl rfl)
theorem dX3_settles_23 : decode cX3_settles 23 = .ok (.aload_n 0, 1) := dk_42 (dk_at dksX3_settles_0 23 rfl rfl)
theorem dX3_settles_24 : decode cX3_settles 24 = .ok (.getfield 7, 3) := dk_180 0 7 (dk_at dksX3_settles_1 0 rfl rfl)
theorem dX3_settles_27 : decode cX3_settles 27 = .ok (.iconst 0, 1) := dk_3 (dk_at dksX3_settles_1 3 rfl rfl)
theorem dX3_settles_28 : decode cX3_settles 28 = .ok (.iaload, 1) := dk_46 (dk_at dksX3_settles_1 4 rfl rfl)
theorem dX3_settles_29 : decode cX3_settles 29 = .ok (.invokevirtual 130, 3) := dk_182 0 130 (dk_at dksX3_settles_1 5 rfl rfl)
theorem dX3_settles_32 : decode cX3_settles 32 = .ok (.ireturn, 1) := dk_172 (dk_at dksX3_settles_1 8 rfl rfl)
theorem dX3_settles_33 : decode cX3_settles 33 = .ok (.aload_n 0, 1) := dk_42 (dk_at dksX3_settles_1 9 rfl rfl)
theorem dX3_settles_34 : decode cX3_settles 34 = .ok (.invokevirtual 145, 3) := dk_182 0 145 (dk_at dksX3_settles_1 10 rfl rfl)
theorem dX3_settles_37 : decode cX3_settles 37 = .ok (.ifCond .eq 15, 3) := dk_153 0 15 (dk_at dksX3_settles_1 13 rfl rfl)
theorem dX3_settles_40 : decode cX3_settles 40 = .ok (.aload_n 0, 1) := dk_42 (dk_at dksX3_settles_1 16 rfl rfl)
theorem dX3_settles_41 : decode cX3_settles 41 = .ok (.iconst 4, 1) := dk_7 (dk_at dksX3_settles_1 17 rfl rfl)
theorem dX3_settles_42 : decode cX3_settles 42 = .ok (.aload_n 0, 1) := dk_42 (dk_at dksX3_settles_1 18 rfl rfl)
theorem dX3_settles_43 : decode cX3_settles 43 = .ok (.getfield 7, 3) := dk_180 0 7 (dk_at dksX3_settles_1 19 rfl rfl)
theorem dX3_settles_46 : decode cX3_settles 46 = .ok (.iconst 2, 1) := dk_5 (dk_at dksX3_settles_1 22 rfl rfl)
theorem dX3_settles_47 : decode cX3_settles 47 = .ok (.iaload, 1) := dk_46 (dk_at dksX3_settles_1 23 rfl rfl)
theorem dX3_settles_48 : decode cX3_settles 48 = .ok (.invokevirtual 130, 3) := dk_182 0 130 (dk_at dksX3_settles_2 0 rfl rfl)
theorem dX3_settles_51 : decode cX3_settles 51 = .ok (.ireturn, 1) := dk_172 (dk_at dksX3_settles_2 3 rfl rfl)
theorem dX3_settles_52 : decode cX3_settles 52 = .ok (.iconst 0, 1) := dk_3 (dk_at dksX3_settles_2 4 rfl rfl)
theorem dX3_settles_53 : decode cX3_settles 53 = .ok (.istore_n 2, 1) := dk_61 (dk_at dksX3_settles_2 5 rfl rfl)
theorem dX3_settles_54 : decode cX3_settles 54 = .ok (.iload_n 2, 1) := dk_28 (dk_at dksX3_settles_2 6 rfl rfl)
theorem dX3_settles_55 : decode cX3_settles 55 = .ok (.iload_n 1, 1) := dk_27 (dk_at dksX3_settles_2 7 rfl rfl)
theorem dX3_settles_56 : decode cX3_settles 56 = .ok (.if_icmp .ge 21, 3) := dk_162 0 21 (dk_at dksX3_settles_2 8 rfl rfl)
theorem dX3_settles_59 : decode cX3_settles 59 = .ok (.aload_n 0, 1) := dk_42 (dk_at dksX3_settles_2 11 rfl rfl)
theorem dX3_settles_60 : decode cX3_settles 60 = .ok (.invokevirtual 145, 3) := dk_182 0 145 (dk_at dksX3_settles_2 12 rfl rfl)
theorem dX3_settles_63 : decode cX3_settles 63 = .ok (.ifCond .ne 14, 3) := dk_154 0 14 (dk_at dksX3_settles_2 15 rfl rfl)
theorem dX3_settles_66 : decode cX3_settles 66 = .ok (.aload_n 0, 1) := dk_42 (dk_at dksX3_settles_2 18 rfl rfl)
theorem dX3_settles_67 : decode cX3_settles 67 = .ok (.invokevirtual 123, 3) := dk_182 0 123 (dk_at dksX3_settles_2 19 rfl rfl)
theorem dX3_settles_70 : decode cX3_settles 70 = .ok (.istore_n 3, 1) := dk_62 (dk_at dksX3_settles_2 22 rfl rfl)
theorem dX3_settles_71 : decode cX3_settles 71 = .ok (.iinc 2 1, 3) := dk_132 2 1 (dk_at dksX3_settles_3 0 rfl rfl)
theorem dX3_settles_74 : decode cX3_settles 74 = .ok (.goto (-20), 3) := dk_167 255 236 (dk_at dksX3_settles_3 3 rfl rfl)
theorem dX3_settles_77 : decode cX3_settles 77 = .ok (.aload_n 0, 1) := dk_42 (dk_at dksX3_settles_3 6 rfl rfl)
theorem dX3_settles_78 : decode cX3_settles 78 = .ok (.iload_n 2, 1) := dk_28 (dk_at dksX3_settles_3 7 rfl rfl)
theorem dX3_settles_79 : decode cX3_settles 79 = .ok (.invokevirtual 133, 3) := dk_182 0 133 (dk_at dksX3_settles_3 8 rfl rfl)
theorem dX3_settles_82 : decode cX3_settles 82 = .ok (.ireturn, 1) := dk_172 (dk_at dksX3_settles_3 11 rfl rfl)
abbrev cX3_isStillNow : ByteArray := prog_14_method_29_code
def yX3_isStillNow : MethodName := ⟨RX3, "isStillNow", "()Z"⟩
def dkwX3_isStillNow_5 : List UInt8 := [167, 255, 235, 27, 172]
abbrev dktX3_isStillNow_5 : List UInt8 := dkwX3_isStillNow_5 ++ []
def dkwX3_isStillNow_4 : List UInt8 := [61, 28, 16, 93, 162, 0, 21, 42, 180, 0, 7, 28, 42, 180, 0, 25, 28, 46, 79, 132, 2, 1]
abbrev dktX3_isStillNow_4 : List UInt8 := dkwX3_isStillNow_4 ++ dktX3_isStillNow_5
def dkwX3_isStillNow_3 : List UInt8 := [180, 0, 25, 16, 63, 28, 96, 46, 160, 0, 7, 4, 167, 0, 4, 3, 60, 132, 2, 1, 167, 255, 216, 3]
abbrev dktX3_isStillNow_3 : List UInt8 := dkwX3_isStillNow_3 ++ dktX3_isStillNow_4
def dkwX3_isStillNow_2 : List UInt8 := [3, 60, 3, 61, 28, 16, 18, 162, 0, 40, 27, 153, 0, 28, 42, 180, 0, 7, 16, 63, 28, 96, 46, 42]
abbrev dktX3_isStillNow_2 : List UInt8 := dkwX3_isStillNow_2 ++ dktX3_isStillNow_3
def dkwX3_isStillNow_1 : List UInt8 := [42, 180, 0, 7, 27, 46, 79, 132, 1, 1, 167, 255, 235, 42, 182, 0, 123, 154, 0, 7, 4, 167, 0, 4]
abbrev dktX3_isStillNow_1 : List UInt8 := dkwX3_isStillNow_1 ++ dktX3_isStillNow_2
def dkwX3_isStillNow_0 : List UInt8 := [42, 180, 0, 7, 4, 46, 154, 0, 5, 4, 172, 3, 60, 27, 16, 93, 162, 0, 21, 42, 180, 0, 25, 27]
abbrev dktX3_isStillNow_0 : List UInt8 := dkwX3_isStillNow_0 ++ dktX3_isStillNow_1
theorem dksX3_isStillNow_0 : cX3_isStillNow.data.toList.drop 0 = dktX3_isStillNow_0 := by decide +kernel
theorem dksX3_isStillNow_1 : cX3_isStillNow.data.toList.drop 24 = dktX3_isStillNow_1 := dk_seg dksX3_isStillNow_0 24 rfl rfl
theorem dksX3_isStillNow_2 : cX3_isStillNow.data.toList.drop 48 = dktX3_isStillNow_2 := dk_seg dksX3_isStillNow_1 24 rfl rfl
theorem dksX3_isStillNow_3 : cX3_isStillNow.data.toList.drop 72 = dktX3_isStillNow_3 := dk_seg dksX3_isStillNow_2 24 rfl rfl
theorem dksX3_isStillNow_4 : cX3_isStillNow.data.toList.drop 96 = dktX3_isStillNow_4 := dk_seg dksX3_isStillNow_3 24 rfl rfl
theorem dksX3_isStillNow_5 : cX3_isStillNow.data.toList.drop 118 = dktX3_isStillNow_5 := dk_seg dksX3_isStillNow_4 22 rfl rfl
theorem dX3_isStillNow_0 : decode cX3_isStillNow 0 = .ok (.aload_n 0, 1) := dk_42 (dk_at dksX3_isStillNow_0 0 rfl rfl)
theorem dX3_isStillNow_1 : decode cX3_isStillNow 1 = .ok (.getfield 7, 3) := dk_180 0 7 (dk_at dksX3_isStillNow_0 1 rfl rfl)
theorem dX3_isStillNow_4 : decode cX3_isStillNow 4 = .ok (.iconst 1, 1) := dk_4 (dk_at dksX3_isStillNow_0 4 rfl rfl)
theorem dX3_isStillNow_5 : decode cX3_isStillNow 5 = .ok (.iaload, 1) := dk_46 (dk_at dksX3_isStillNow_0 5 rfl rfl)
theorem dX3_isStillNow_6 : decode cX3_isStillNow 6 = .ok (.ifCond .ne 5, 3) := dk_154 0 5 (dk_at dksX3_isStillNow_0 6 rfl rfl)
theorem dX3_isStillNow_9 : decode cX3_isStillNow 9 = .ok (.iconst 1, 1) := dk_4 (dk_at dksX3_isStillNow_0 9 rfl rfl)
theorem dX3_isStillNow_10 : decode cX3_isStillNow 10 = .ok (.ireturn, 1) := dk_172 (dk_at dksX3_isStillNow_0 10 rfl rfl)
theorem dX3_isStillNow_11 : decode cX3_isStillNow 11 = .ok (.iconst 0, 1) := dk_3 (dk_at dksX3_isStillNow_0 11 rfl rfl)
theorem dX3_isStillNow_12 : decode cX3_isStillNow 12 = .ok (.istore_n 1, 1) := dk_60 (dk_at dksX3_isStillNow_0 12 rfl rfl)
theorem dX3_isStillNow_13 : decode cX3_isStillNow 13 = .ok (.iload_n 1, 1) := dk_27 (dk_at dksX3_isStillNow_0 13 rfl rfl)
theorem dX3_isStillNow_14 : decode cX3_isStillNow 14 = .ok (.bipush 93, 2) := dk_16 93 (dk_at dksX3_isStillNow_0 14 rfl rfl)
theorem dX3_isStillNow_16 : decode cX3_isStillNow 16 = .ok (.if_icmp .ge 21, 3) := dk_162 0 21 (dk_at dksX3_isStillNow_0 16 rfl rfl)
theorem dX3_isStillNow_19 : decode cX3_isStillNow 19 = .ok (.aload_n 0, 1) := dk_42 (dk_at dksX3_isStillNow_0 19 rfl rfl)
theorem dX3_isStillNow_20 : decode cX3_isStillNow 20 = .ok (.getfield 25, 3) := dk_180 0 25 (dk_at dksX3_isStillNow_0 20 rfl rfl)
theorem dX3_isStillNow_23 : decode cX3_isStillNow 23 = .ok (.iload_n 1, 1) := dk_27 (dk_at dksX3_isStillNow_0 23 rfl rfl)
theorem dX3_isStillNow_24 : decode cX3_isStillNow 24 = .ok (.aload_n 0, 1) := dk_42 (dk_at dksX3_isStillNow_1 0 rfl rfl)
theorem dX3_isStillNow_25 : decode cX3_isStillNow 25 = .ok (.getfield 7, 3) := dk_180 0 7 (dk_at dksX3_isStillNow_1 1 rfl rfl)
theorem dX3_isStillNow_28 : decode cX3_isStillNow 28 = .ok (.iload_n 1, 1) := dk_27 (dk_at dksX3_isStillNow_1 4 rfl rfl)
theorem dX3_isStillNow_29 : decode cX3_isStillNow 29 = .ok (.iaload, 1) := dk_46 (dk_at dksX3_isStillNow_1 5 rfl rfl)
theorem dX3_isStillNow_30 : decode cX3_isStillNow 30 = .ok (.iastore, 1) := dk_79 (dk_at dksX3_isStillNow_1 6 rfl rfl)
theorem dX3_isStillNow_31 : decode cX3_isStillNow 31 = .ok (.iinc 1 1, 3) := dk_132 1 1 (dk_at dksX3_isStillNow_1 7 rfl rfl)
theorem dX3_isStillNow_34 : decode cX3_isStillNow 34 = .ok (.goto (-21), 3) := dk_167 255 235 (dk_at dksX3_isStillNow_1 10 rfl rfl)
theorem dX3_isStillNow_37 : decode cX3_isStillNow 37 = .ok (.aload_n 0, 1) := dk_42 (dk_at dksX3_isStillNow_1 13 rfl rfl)
theorem dX3_isStillNow_38 : decode cX3_isStillNow 38 = .ok (.invokevirtual 123, 3) := dk_182 0 123 (dk_at dksX3_isStillNow_1 14 rfl rfl)
theorem dX3_isStillNow_41 : decode cX3_isStillNow 41 = .ok (.ifCond .ne 7, 3) := dk_154 0 7 (dk_at dksX3_isStillNow_1 17 rfl rfl)
theorem dX3_isStillNow_44 : decode cX3_isStillNow 44 = .ok (.iconst 1, 1) := dk_4 (dk_at dksX3_isStillNow_1 20 rfl rfl)
theorem dX3_isStillNow_45 : decode cX3_isStillNow 45 = .ok (.goto 4, 3) := dk_167 0 4 (dk_at dksX3_isStillNow_1 21 rfl rfl)
theorem dX3_isStillNow_48 : decode cX3_isStillNow 48 = .ok (.iconst 0, 1) := dk_3 (dk_at dksX3_isStillNow_2 0 rfl rfl)
theorem dX3_isStillNow_49 : decode cX3_isStillNow 49 = .ok (.istore_n 1, 1) := dk_60 (dk_at dksX3_isStillNow_2 1 rfl rfl)
theorem dX3_isStillNow_50 : decode cX3_isStillNow 50 = .ok (.iconst 0, 1) := dk_3 (dk_at dksX3_isStillNow_2 2 rfl rfl)
theorem dX3_isStillNow_51 : decode cX3_isStillNow 51 = .ok (.istore_n 2, 1) := dk_61 (dk_at dksX3_isStillNow_2 3 rfl rfl)
theorem dX3_isStillNow_52 : decode cX3_isStillNow 52 = .ok (.iload_n 2, 1) := dk_28 (dk_at dksX3_isStillNow_2 4 rfl rfl)
theorem dX3_isStillNow_53 : decode cX3_isStillNow 53 = .ok (.bipush 18, 2) := dk_16 18 (dk_at dksX3_isStillNow_2 5 rfl rfl)
theorem dX3_isStillNow_55 : decode cX3_isStillNow 55 = .ok (.if_icmp .ge 40, 3) := dk_162 0 40 (dk_at dksX3_isStillNow_2 7 rfl rfl)
theorem dX3_isStillNow_58 : decode cX3_isStillNow 58 = .ok (.iload_n 1, 1) := dk_27 (dk_at dksX3_isStillNow_2 10 rfl rfl)
theorem dX3_isStillNow_59 : decode cX3_isStillNow 59 = .ok (.ifCond .eq 28, 3) := dk_153 0 28 (dk_at dksX3_isStillNow_2 11 rfl rfl)
theorem dX3_isStillNow_62 : decode cX3_isStillNow 62 = .ok (.aload_n 0, 1) := dk_42 (dk_at dksX3_isStillNow_2 14 rfl rfl)
theorem dX3_isStillNow_63 : decode cX3_isStillNow 63 = .ok (.getfield 7, 3) := dk_180 0 7 (dk_at dksX3_isStillNow_2 15 rfl rfl)
theorem dX3_isStillNow_66 : decode cX3_isStillNow 66 = .ok (.bipush 63, 2) := dk_16 63 (dk_at dksX3_isStillNow_2 18 rfl rfl)
theorem dX3_isStillNow_68 : decode cX3_isStillNow 68 = .ok (.iload_n 2, 1) := dk_28 (dk_at dksX3_isStillNow_2 20 rfl rfl)
theorem dX3_isStillNow_69 : decode cX3_isStillNow 69 = .ok (.iadd, 1) := dk_96 (dk_at dksX3_isStillNow_2 21 rfl rfl)
theorem dX3_isStillNow_70 : decode cX3_isStillNow 70 = .ok (.iaload, 1) := dk_46 (dk_at dksX3_isStillNow_2 22 rfl rfl)
theorem dX3_isStillNow_71 : decode cX3_isStillNow 71 = .ok (.aload_n 0, 1) := dk_42 (dk_at dksX3_isStillNow_2 23 rfl rfl)
theorem dX3_isStillNow_72 : decode cX3_isStillNow 72 = .ok (.getfield 25, 3) := dk_180 0 25 (dk_at dksX3_isStillNow_3 0 rfl rfl)
theorem dX3_isStillNow_75 : decode cX3_isStillNow 75 = .ok (.bipush 63, 2) := dk_16 63 (dk_at dksX3_isStillNow_3 3 rfl rfl)
theorem dX3_isStillNow_77 : decode cX3_isStillNow 77 = .ok (.iload_n 2, 1) := dk_28 (dk_at dksX3_isStillNow_3 5 rfl rfl)
theorem dX3_isStillNow_78 : decode cX3_isStillNow 78 = .ok (.iadd, 1) := dk_96 (dk_at dksX3_isStillNow_3 6 rfl rfl)
theorem dX3_isStillNow_79 : decode cX3_isStillNow 79 = .ok (.iaload, 1) := dk_46 (dk_at dksX3_isStillNow_3 7 rfl rfl)
theorem dX3_isStillNow_80 : decode cX3_isStillNow 80 = .ok (.if_icmp .ne 7, 3) := dk_160 0 7 (dk_at dksX3_isStillNow_3 8 rfl rfl)
theorem dX3_isStillNow_83 : decode cX3_isStillNow 83 = .ok (.iconst 1, 1) := dk_4 (dk_at dksX3_isStillNow_3 11 rfl rfl)
theorem dX3_isStillNow_84 : decode cX3_isStillNow 84 = .ok (.goto 4, 3) := dk_167 0 4 (dk_at dksX3_isStillNow_3 12 rfl rfl)
theorem dX3_isStillNow_87 : decode cX3_isStillNow 87 = .ok (.iconst 0, 1) := dk_3 (dk_at dksX3_isStillNow_3 15 rfl rfl)
theorem dX3_isStillNow_88 : decode cX3_isStillNow 88 = .ok (.istore_n 1, 1) := dk_60 (dk_at dksX3_isStillNow_3 16 rfl rfl)
theorem dX3_isStillNow_89 : decode cX3_isStillNow 89 = .ok (.iinc 2 1, 3) := dk_132 2 1 (dk_at dksX3_isStillNow_3 17 rfl rfl)
theorem dX3_isStillNow_92 : decode cX3_isStillNow 92 = .ok (.goto (-40), 3) := dk_167 255 216 (dk_at dksX3_isStillNow_3 20 rfl rfl)
theorem dX3_isStillNow_95 : decode cX3_isStillNow 95 = .ok (.iconst 0, 1) := dk_3 (dk_at dksX3_isStillNow_3 23 rfl rfl)
theorem dX3_isStillNow_96 : decode cX3_isStillNow 96 = .ok (.istore_n 2, 1) := dk_61 (dk_at dksX3_isStillNow_4 0 rfl rfl)
theorem dX3_isStillNow_97 : decode cX3_isStillNow 97 = .ok (.iload_n 2, 1) := dk_28 (dk_at dksX3_isStillNow_4 1 rfl rfl)
theorem dX3_isStillNow_98 : decode cX3_isStillNow 98 = .ok (.bipush 93, 2) := dk_16 93 (dk_at dksX3_isStillNow_4 2 rfl rfl)
theorem dX3_isStillNow_100 : decode cX3_isStillNow 100 = .ok (.if_icmp .ge 21, 3) := dk_162 0 21 (dk_at dksX3_isStillNow_4 4 rfl rfl)
theorem dX3_isStillNow_103 : decode cX3_isStillNow 103 = .ok (.aload_n 0, 1) := dk_42 (dk_at dksX3_isStillNow_4 7 rfl rfl)
theorem dX3_isStillNow_104 : decode cX3_isStillNow 104 = .ok (.getfield 7, 3) := dk_180 0 7 (dk_at dksX3_isStillNow_4 8 rfl rfl)
theorem dX3_isStillNow_107 : decode cX3_isStillNow 107 = .ok (.iload_n 2, 1) := dk_28 (dk_at dksX3_isStillNow_4 11 rfl rfl)
theorem dX3_isStillNow_108 : decode cX3_isStillNow 108 = .ok (.aload_n 0, 1) := dk_42 (dk_at dksX3_isStillNow_4 12 rfl rfl)
theorem dX3_isStillNow_109 : decode cX3_isStillNow 109 = .ok (.getfield 25, 3) := dk_180 0 25 (dk_at dksX3_isStillNow_4 13 rfl rfl)
theorem dX3_isStillNow_112 : decode cX3_isStillNow 112 = .ok (.iload_n 2, 1) := dk_28 (dk_at dksX3_isStillNow_4 16 rfl rfl)
theorem dX3_isStillNow_113 : decode cX3_isStillNow 113 = .ok (.iaload, 1) := dk_46 (dk_at dksX3_isStillNow_4 17 rfl rfl)
theorem dX3_isStillNow_114 : decode cX3_isStillNow 114 = .ok (.iastore, 1) := dk_79 (dk_at dksX3_isStillNow_4 18 rfl rfl)
theorem dX3_isStillNow_115 : decode cX3_isStillNow 115 = .ok (.iinc 2 1, 3) := dk_132 2 1 (dk_at dksX3_isStillNow_4 19 rfl rfl)
theorem dX3_isStillNow_118 : decode cX3_isStillNow 118 = .ok (.goto (-21), 3) := dk_167 255 235 (dk_at dksX3_isStillNow_5 0 rfl rfl)
theorem dX3_isStillNow_121 : decode cX3_isStillNow 121 = .ok (.iload_n 1, 1) := dk_27 (dk_at dksX3_isStillNow_5 3 rfl rfl)
theorem dX3_isStillNow_122 : decode cX3_isStillNow 122 = .ok (.ireturn, 1) := dk_172 (dk_at dksX3_isStillNow_5 4 rfl rfl)
abbrev cX3_isStill : ByteArray := prog_14_method_56_code
def yX3_isStill : MethodName := ⟨RX3, "isStill", "()Z"⟩
def dkwX3_isStill_0 : List UInt8 := [42, 3, 181, 0, 53, 42, 182, 0, 145, 172]
abbrev dktX3_isStill_0 : List UInt8 := dkwX3_isStill_0 ++ []
theorem dksX3_isStill_0 : cX3_isStill.data.toList.drop 0 = dktX3_isStill_0 := by decide +kernel
theorem dX3_isStill_0 : decode cX3_isStill 0 = .ok (.aload_n 0, 1) := dk_42 (dk_at dksX3_isStill_0 0 rfl rfl)
theorem dX3_isStill_1 : decode cX3_isStill 1 = .ok (.iconst 0, 1) := dk_3 (dk_at dksX3_isStill_0 1 rfl rfl)
theorem dX3_isStill_2 : decode cX3_isStill 2 = .ok (.putfield 53, 3) := dk_181 0 53 (dk_at dksX3_isStill_0 2 rfl rfl)
theorem dX3_isStill_5 : decode cX3_isStill 5 = .ok (.aload_n 0, 1) := dk_42 (dk_at dksX3_isStill_0 5 rfl rfl)
theorem dX3_isStill_6 : decode cX3_isStill 6 = .ok (.invokevirtual 145, 3) := dk_182 0 145 (dk_at dksX3_isStill_0 6 rfl rfl)
theorem dX3_isStill_9 : decode cX3_isStill 9 = .ok (.ireturn, 1) := dk_172 (dk_at dksX3_isStill_0 9 rfl rfl)
abbrev cX3_roundsToStill : ByteArray := prog_14_method_57_code
def yX3_roundsToStill : MethodName := ⟨RX3, "roundsToStill", "()I"⟩
def dkwX3_roundsToStill_2 : List UInt8 := [167, 0, 4, 27, 172]
abbrev dktX3_roundsToStill_2 : List UInt8 := dkwX3_roundsToStill_2 ++ []
def dkwX3_roundsToStill_1 : List UInt8 := [42, 182, 0, 123, 61, 132, 1, 1, 167, 255, 235, 42, 182, 0, 188, 27, 16, 40, 164, 0, 7, 2]
abbrev dktX3_roundsToStill_1 : List UInt8 := dkwX3_roundsToStill_1 ++ dktX3_roundsToStill_2
def dkwX3_roundsToStill_0 : List UInt8 := [42, 3, 181, 0, 53, 42, 182, 0, 185, 3, 60, 27, 16, 40, 163, 0, 21, 42, 182, 0, 145, 154, 0, 14]
abbrev dktX3_roundsToStill_0 : List UInt8 := dkwX3_roundsToStill_0 ++ dktX3_roundsToStill_1
theorem dksX3_roundsToStill_0 : cX3_roundsToStill.data.toList.drop 0 = dktX3_roundsToStill_0 := by decide +kernel
theorem dksX3_roundsToStill_1 : cX3_roundsToStill.data.toList.drop 24 = dktX3_roundsToStill_1 := dk_seg dksX3_roundsToStill_0 24 rfl rfl
theorem dksX3_roundsToStill_2 : cX3_roundsToStill.data.toList.drop 46 = dktX3_roundsToStill_2 := dk_seg dksX3_roundsToStill_1 22 rfl rfl
theorem dX3_roundsToStill_0 : decode cX3_roundsToStill 0 = .ok (.aload_n 0, 1) := dk_42 (dk_at dksX3_roundsToStill_0 0 rfl rfl)
theorem dX3_roundsToStill_1 : decode cX3_roundsToStill 1 = .ok (.iconst 0, 1) := dk_3 (dk_at dksX3_roundsToStill_0 1 rfl rfl)
theorem dX3_roundsToStill_2 : decode cX3_roundsToStill 2 = .ok (.putfield 53, 3) := dk_181 0 53 (dk_at dksX3_roundsToStill_0 2 rfl rfl)
theorem dX3_roundsToStill_5 : decode cX3_roundsToStill 5 = .ok (.aload_n 0, 1) := dk_42 (dk_at dksX3_roundsToStill_0 5 rfl rfl)
theorem dX3_roundsToStill_6 : decode cX3_roundsToStill 6 = .ok (.invokevirtual 185, 3) := dk_182 0 185 (dk_at dksX3_roundsToStill_0 6 rfl rfl)
theorem dX3_roundsToStill_9 : decode cX3_roundsToStill 9 = .ok (.iconst 0, 1) := dk_3 (dk_at dksX3_roundsToStill_0 9 rfl rfl)
theorem dX3_roundsToStill_10 : decode cX3_roundsToStill 10 = .ok (.istore_n 1, 1) := dk_60 (dk_at dksX3_roundsToStill_0 10 rfl rfl)
theorem dX3_roundsToStill_11 : decode cX3_roundsToStill 11 = .ok (.iload_n 1, 1) := dk_27 (dk_at dksX3_roundsToStill_0 11 rfl rfl)
theorem dX3_roundsToStill_12 : decode cX3_roundsToStill 12 = .ok (.bipush 40, 2) := dk_16 40 (dk_at dksX3_roundsToStill_0 12 rfl rfl)
theorem dX3_roundsToStill_14 : decode cX3_roundsToStill 14 = .ok (.if_icmp .gt 21, 3) := dk_163 0 21 (dk_at dksX3_roundsToStill_0 14 rfl rfl)
theorem dX3_roundsToStill_17 : decode cX3_roundsToStill 17 = .ok (.aload_n 0, 1) := dk_42 (dk_at dksX3_roundsToStill_0 17 rfl rfl)
theorem dX3_roundsToStill_18 : decode cX3_roundsToStill 18 = .ok (.invokevirtual 145, 3) := dk_182 0 145 (dk_at dksX3_roundsToStill_0 18 rfl rfl)
theorem dX3_roundsToStill_21 : decode cX3_roundsToStill 21 = .ok (.ifCond .ne 14, 3) := dk_154 0 14 (dk_at dksX3_roundsToStill_0 21 rfl rfl)
theorem dX3_roundsToStill_24 : decode cX3_roundsToStill 24 = .ok (.aload_n 0, 1) := dk_42 (dk_at dksX3_roundsToStill_1 0 rfl rfl)
theorem dX3_roundsToStill_25 : decode cX3_roundsToStill 25 = .ok (.invokevirtual 123, 3) := dk_182 0 123 (dk_at dksX3_roundsToStill_1 1 rfl rfl)
theorem dX3_roundsToStill_28 : decode cX3_roundsToStill 28 = .ok (.istore_n 2, 1) := dk_61 (dk_at dksX3_roundsToStill_1 4 rfl rfl)
theorem dX3_roundsToStill_29 : decode cX3_roundsToStill 29 = .ok (.iinc 1 1, 3) := dk_132 1 1 (dk_at dksX3_roundsToStill_1 5 rfl rfl)
theorem dX3_roundsToStill_32 : decode cX3_roundsToStill 32 = .ok (.goto (-21), 3) := dk_167 255 235 (dk_at dksX3_roundsToStill_1 8 rfl rfl)
theorem dX3_roundsToStill_35 : decode cX3_roundsToStill 35 = .ok (.aload_n 0, 1) := dk_42 (dk_at dksX3_roundsToStill_1 11 rfl rfl)
theorem dX3_roundsToStill_36 : decode cX3_roundsToStill 36 = .ok (.invokevirtual 188, 3) := dk_182 0 188 (dk_at dksX3_roundsToStill_1 12 rfl rfl)
theorem dX3_roundsToStill_39 : decode cX3_roundsToStill 39 = .ok (.iload_n 1, 1) := dk_27 (dk_at dksX3_roundsToStill_1 15 rfl rfl)
theorem dX3_roundsToStill_40 : decode cX3_roundsToStill 40 = .ok (.bipush 40, 2) := dk_16 40 (dk_at dksX3_roundsToStill_1 16 rfl rfl)
theorem dX3_roundsToStill_42 : decode cX3_roundsToStill 42 = .ok (.if_icmp .le 7, 3) := dk_164 0 7 (dk_at dksX3_roundsToStill_1 18 rfl rfl)
theorem dX3_roundsToStill_45 : decode cX3_roundsToStill 45 = .ok (.iconst (-1), 1) := dk_2 (dk_at dksX3_roundsToStill_1 21 rfl rfl)
theorem dX3_roundsToStill_46 : decode cX3_roundsToStill 46 = .ok (.goto 4, 3) := dk_167 0 4 (dk_at dksX3_roundsToStill_2 0 rfl rfl)
theorem dX3_roundsToStill_49 : decode cX3_roundsToStill 49 = .ok (.iload_n 1, 1) := dk_27 (dk_at dksX3_roundsToStill_2 3 rfl rfl)
theorem dX3_roundsToStill_50 : decode cX3_roundsToStill 50 = .ok (.ireturn, 1) := dk_172 (dk_at dksX3_roundsToStill_2 4 rfl rfl)
abbrev cX3_thinks : ByteArray := prog_14_method_30_code
def yX3_thinks : MethodName := ⟨RX3, "thinks", "()V"⟩
def dkwX3_thinks_1 : List UInt8 := [167, 255, 235, 177]
abbrev dktX3_thinks_1 : List UInt8 := dkwX3_thinks_1 ++ []
def dkwX3_thinks_0 : List UInt8 := [3, 60, 27, 16, 93, 162, 0, 21, 42, 180, 0, 22, 27, 42, 180, 0, 7, 27, 46, 79, 132, 1, 1]
abbrev dktX3_thinks_0 : List UInt8 := dkwX3_thinks_0 ++ dktX3_thinks_1
theorem dksX3_thinks_0 : cX3_thinks.data.toList.drop 0 = dktX3_thinks_0 := by decide +kernel
theorem dksX3_thinks_1 : cX3_thinks.data.toList.drop 23 = dktX3_thinks_1 := dk_seg dksX3_thinks_0 23 rfl rfl
theorem dX3_thinks_0 : decode cX3_thinks 0 = .ok (.iconst 0, 1) := dk_3 (dk_at dksX3_thinks_0 0 rfl rfl)
theorem dX3_thinks_1 : decode cX3_thinks 1 = .ok (.istore_n 1, 1) := dk_60 (dk_at dksX3_thinks_0 1 rfl rfl)
theorem dX3_thinks_2 : decode cX3_thinks 2 = .ok (.iload_n 1, 1) := dk_27 (dk_at dksX3_thinks_0 2 rfl rfl)
theorem dX3_thinks_3 : decode cX3_thinks 3 = .ok (.bipush 93, 2) := dk_16 93 (dk_at dksX3_thinks_0 3 rfl rfl)
theorem dX3_thinks_5 : decode cX3_thinks 5 = .ok (.if_icmp .ge 21, 3) := dk_162 0 21 (dk_at dksX3_thinks_0 5 rfl rfl)
theorem dX3_thinks_8 : decode cX3_thinks 8 = .ok (.aload_n 0, 1) := dk_42 (dk_at dksX3_thinks_0 8 rfl rfl)
theorem dX3_thinks_9 : decode cX3_thinks 9 = .ok (.getfield 22, 3) := dk_180 0 22 (dk_at dksX3_thinks_0 9 rfl rfl)
theorem dX3_thinks_12 : decode cX3_thinks 12 = .ok (.iload_n 1, 1) := dk_27 (dk_at dksX3_thinks_0 12 rfl rfl)
theorem dX3_thinks_13 : decode cX3_thinks 13 = .ok (.aload_n 0, 1) := dk_42 (dk_at dksX3_thinks_0 13 rfl rfl)
theorem dX3_thinks_14 : decode cX3_thinks 14 = .ok (.getfield 7, 3) := dk_180 0 7 (dk_at dksX3_thinks_0 14 rfl rfl)
theorem dX3_thinks_17 : decode cX3_thinks 17 = .ok (.iload_n 1, 1) := dk_27 (dk_at dksX3_thinks_0 17 rfl rfl)
theorem dX3_thinks_18 : decode cX3_thinks 18 = .ok (.iaload, 1) := dk_46 (dk_at dksX3_thinks_0 18 rfl rfl)
theorem dX3_thinks_19 : decode cX3_thinks 19 = .ok (.iastore, 1) := dk_79 (dk_at dksX3_thinks_0 19 rfl rfl)
theorem dX3_thinks_20 : decode cX3_thinks 20 = .ok (.iinc 1 1, 3) := dk_132 1 1 (dk_at dksX3_thinks_0 20 rfl rfl)
theorem dX3_thinks_23 : decode cX3_thinks 23 = .ok (.goto (-21), 3) := dk_167 255 235 (dk_at dksX3_thinks_1 0 rfl rfl)
theorem dX3_thinks_26 : decode cX3_thinks 26 = .ok (.return_, 1) := dk_177 (dk_at dksX3_thinks_1 3 rfl rfl)
abbrev cX3_forgets : ByteArray := prog_14_method_31_code
def yX3_forgets : MethodName := ⟨RX3, "forgets", "()V"⟩
def dkwX3_forgets_1 : List UInt8 := [167, 255, 235, 177]
abbrev dktX3_forgets_1 : List UInt8 := dkwX3_forgets_1 ++ []
def dkwX3_forgets_0 : List UInt8 := [3, 60, 27, 16, 93, 162, 0, 21, 42, 180, 0, 7, 27, 42, 180, 0, 22, 27, 46, 79, 132, 1, 1]
abbrev dktX3_forgets_0 : List UInt8 := dkwX3_forgets_0 ++ dktX3_forgets_1
theorem dksX3_forgets_0 : cX3_forgets.data.toList.drop 0 = dktX3_forgets_0 := by decide +kernel
theorem dksX3_forgets_1 : cX3_forgets.data.toList.drop 23 = dktX3_forgets_1 := dk_seg dksX3_forgets_0 23 rfl rfl
theorem dX3_forgets_0 : decode cX3_forgets 0 = .ok (.iconst 0, 1) := dk_3 (dk_at dksX3_forgets_0 0 rfl rfl)
theorem dX3_forgets_1 : decode cX3_forgets 1 = .ok (.istore_n 1, 1) := dk_60 (dk_at dksX3_forgets_0 1 rfl rfl)
theorem dX3_forgets_2 : decode cX3_forgets 2 = .ok (.iload_n 1, 1) := dk_27 (dk_at dksX3_forgets_0 2 rfl rfl)
theorem dX3_forgets_3 : decode cX3_forgets 3 = .ok (.bipush 93, 2) := dk_16 93 (dk_at dksX3_forgets_0 3 rfl rfl)
theorem dX3_forgets_5 : decode cX3_forgets 5 = .ok (.if_icmp .ge 21, 3) := dk_162 0 21 (dk_at dksX3_forgets_0 5 rfl rfl)
theorem dX3_forgets_8 : decode cX3_forgets 8 = .ok (.aload_n 0, 1) := dk_42 (dk_at dksX3_forgets_0 8 rfl rfl)
theorem dX3_forgets_9 : decode cX3_forgets 9 = .ok (.getfield 7, 3) := dk_180 0 7 (dk_at dksX3_forgets_0 9 rfl rfl)
theorem dX3_forgets_12 : decode cX3_forgets 12 = .ok (.iload_n 1, 1) := dk_27 (dk_at dksX3_forgets_0 12 rfl rfl)
theorem dX3_forgets_13 : decode cX3_forgets 13 = .ok (.aload_n 0, 1) := dk_42 (dk_at dksX3_forgets_0 13 rfl rfl)
theorem dX3_forgets_14 : decode cX3_forgets 14 = .ok (.getfield 22, 3) := dk_180 0 22 (dk_at dksX3_forgets_0 14 rfl rfl)
theorem dX3_forgets_17 : decode cX3_forgets 17 = .ok (.iload_n 1, 1) := dk_27 (dk_at dksX3_forgets_0 17 rfl rfl)
theorem dX3_forgets_18 : decode cX3_forgets 18 = .ok (.iaload, 1) := dk_46 (dk_at dksX3_forgets_0 18 rfl rfl)
theorem dX3_forgets_19 : decode cX3_forgets 19 = .ok (.iastore, 1) := dk_79 (dk_at dksX3_forgets_0 19 rfl rfl)
theorem dX3_forgets_20 : decode cX3_forgets 20 = .ok (.iinc 1 1, 3) := dk_132 1 1 (dk_at dksX3_forgets_0 20 rfl rfl)
theorem dX3_forgets_23 : decode cX3_forgets 23 = .ok (.goto (-21), 3) := dk_167 255 235 (dk_at dksX3_forgets_1 0 rfl rfl)
theorem dX3_forgets_26 : decode cX3_forgets 26 = .ok (.return_, 1) := dk_177 (dk_at dksX3_forgets_1 3 rfl rfl)
abbrev cX3_spread : ByteArray := prog_14_method_58_code
def yX3_spread : MethodName := ⟨RX3, "spread", "(Z)I"⟩
def dkwX3_spread_0 : List UInt8 := [42, 3, 181, 0, 53, 42, 182, 0, 191, 172]
abbrev dktX3_spread_0 : List UInt8 := dkwX3_spread_0 ++ []
theorem dksX3_spread_0 : cX3_spread.data.toList.drop 0 = dktX3_spread_0 := by decide +kernel
theorem dX3_spread_0 : decode cX3_spread 0 = .ok (.aload_n 0, 1) := dk_42 (dk_at dksX3_spread_0 0 rfl rfl)
theorem dX3_spread_1 : decode cX3_spread 1 = .ok (.iconst 0, 1) := dk_3 (dk_at dksX3_spread_0 1 rfl rfl)
theorem dX3_spread_2 : decode cX3_spread 2 = .ok (.putfield 53, 3) := dk_181 0 53 (dk_at dksX3_spread_0 2 rfl rfl)
theorem dX3_spread_5 : decode cX3_spread 5 = .ok (.aload_n 0, 1) := dk_42 (dk_at dksX3_spread_0 5 rfl rfl)
theorem dX3_spread_6 : decode cX3_spread 6 = .ok (.invokevirtual 191, 3) := dk_182 0 191 (dk_at dksX3_spread_0 6 rfl rfl)
theorem dX3_spread_9 : decode cX3_spread 9 = .ok (.ireturn, 1) := dk_172 (dk_at dksX3_spread_0 9 rfl rfl)
abbrev cX3_spreads : ByteArray := prog_14_method_22_code
def yX3_spreads : MethodName := ⟨RX3, "spreads", "()I"⟩
def dkwX3_spreads_1 : List UInt8 := [132, 2, 1, 167, 255, 235, 27, 172]
abbrev dktX3_spreads_1 : List UInt8 := dkwX3_spreads_1 ++ []
def dkwX3_spreads_0 : List UInt8 := [3, 60, 3, 61, 28, 42, 180, 0, 7, 4, 46, 162, 0, 17, 27, 42, 28, 182, 0, 96, 96, 60]
abbrev dktX3_spreads_0 : List UInt8 := dkwX3_spreads_0 ++ dktX3_spreads_1
theorem dksX3_spreads_0 : cX3_spreads.data.toList.drop 0 = dktX3_spreads_0 := by decide +kernel
theorem dksX3_spreads_1 : cX3_spreads.data.toList.drop 22 = dktX3_spreads_1 := dk_seg dksX3_spreads_0 22 rfl rfl
theorem dX3_spreads_0 : decode cX3_spreads 0 = .ok (.iconst 0, 1) := dk_3 (dk_at dksX3_spreads_0 0 rfl rfl)
theorem dX3_spreads_1 : decode cX3_spreads 1 = .ok (.istore_n 1, 1) := dk_60 (dk_at dksX3_spreads_0 1 rfl rfl)
theorem dX3_spreads_2 : decode cX3_spreads 2 = .ok (.iconst 0, 1) := dk_3 (dk_at dksX3_spreads_0 2 rfl rfl)
theorem dX3_spreads_3 : decode cX3_spreads 3 = .ok (.istore_n 2, 1) := dk_61 (dk_at dksX3_spreads_0 3 rfl rfl)
theorem dX3_spreads_4 : decode cX3_spreads 4 = .ok (.iload_n 2, 1) := dk_28 (dk_at dksX3_spreads_0 4 rfl rfl)
theorem dX3_spreads_5 : decode cX3_spreads 5 = .ok (.aload_n 0, 1) := dk_42 (dk_at dksX3_spreads_0 5 rfl rfl)
theorem dX3_spreads_6 : decode cX3_spreads 6 = .ok (.getfield 7, 3) := dk_180 0 7 (dk_at dksX3_spreads_0 6 rfl rfl)
theorem dX3_spreads_9 : decode cX3_spreads 9 = .ok (.iconst 1, 1) := dk_4 (dk_at dksX3_spreads_0 9 rfl rfl)
theorem dX3_spreads_10 : decode cX3_spreads 10 = .ok (.iaload, 1) := dk_46 (dk_at dksX3_spreads_0 10 rfl rfl)
theorem dX3_spreads_11 : decode cX3_spreads 11 = .ok (.if_icmp .ge 17, 3) := dk_162 0 17 (dk_at dksX3_spreads_0 11 rfl rfl)
theorem dX3_spreads_14 : decode cX3_spreads 14 = .ok (.iload_n 1, 1) := dk_27 (dk_at dksX3_spreads_0 14 rfl rfl)
theorem dX3_spreads_15 : decode cX3_spreads 15 = .ok (.aload_n 0, 1) := dk_42 (dk_at dksX3_spreads_0 15 rfl rfl)
theorem dX3_spreads_16 : decode cX3_spreads 16 = .ok (.iload_n 2, 1) := dk_28 (dk_at dksX3_spreads_0 16 rfl rfl)
theorem dX3_spreads_17 : decode cX3_spreads 17 = .ok (.invokevirtual 96, 3) := dk_182 0 96 (dk_at dksX3_spreads_0 17 rfl rfl)
theorem dX3_spreads_20 : decode cX3_spreads 20 = .ok (.iadd, 1) := dk_96 (dk_at dksX3_spreads_0 20 rfl rfl)
theorem dX3_spreads_21 : decode cX3_spreads 21 = .ok (.istore_n 1, 1) := dk_60 (dk_at dksX3_spreads_0 21 rfl rfl)
theorem dX3_spreads_22 : decode cX3_spreads 22 = .ok (.iinc 2 1, 3) := dk_132 2 1 (dk_at dksX3_spreads_1 0 rfl rfl)
theorem dX3_spreads_25 : decode cX3_spreads 25 = .ok (.goto (-21), 3) := dk_167 255 235 (dk_at dksX3_spreads_1 3 rfl rfl)
theorem dX3_spreads_28 : decode cX3_spreads 28 = .ok (.iload_n 1, 1) := dk_27 (dk_at dksX3_spreads_1 6 rfl rfl)
theorem dX3_spreads_29 : decode cX3_spreads 29 = .ok (.ireturn, 1) := dk_172 (dk_at dksX3_spreads_1 7 rfl rfl)
abbrev cX3_spreadAfter : ByteArray := prog_14_method_59_code
def yX3_spreadAfter : MethodName := ⟨RX3, "spreadAfter", "(I)I"⟩
def dkwX3_spreadAfter_3 : List UInt8 := [28, 172]
abbrev dktX3_spreadAfter_3 : List UInt8 := dkwX3_spreadAfter_3 ++ []
def dkwX3_spreadAfter_2 : List UInt8 := [27, 162, 0, 14, 42, 182, 0, 123, 62, 132, 2, 1, 167, 255, 243, 42, 182, 0, 191, 61, 42, 182, 0, 188]
abbrev dktX3_spreadAfter_2 : List UInt8 := dkwX3_spreadAfter_2 ++ dktX3_spreadAfter_3
def dkwX3_spreadAfter_1 : List UInt8 := [5, 167, 0, 4, 3, 181, 0, 53, 42, 180, 0, 53, 158, 0, 5, 3, 172, 42, 182, 0, 185, 3, 61, 28]
abbrev dktX3_spreadAfter_1 : List UInt8 := dkwX3_spreadAfter_1 ++ dktX3_spreadAfter_2
def dkwX3_spreadAfter_0 : List UInt8 := [42, 27, 3, 16, 20, 184, 0, 78, 154, 0, 7, 4, 167, 0, 17, 42, 180, 0, 7, 4, 46, 154, 0, 7]
abbrev dktX3_spreadAfter_0 : List UInt8 := dkwX3_spreadAfter_0 ++ dktX3_spreadAfter_1
theorem dksX3_spreadAfter_0 : cX3_spreadAfter.data.toList.drop 0 = dktX3_spreadAfter_0 := by decide +kernel
theorem dksX3_spreadAfter_1 : cX3_spreadAfter.data.toList.drop 24 = dktX3_spreadAfter_1 := dk_seg dksX3_spreadAfter_0 24 rfl rfl
theorem dksX3_spreadAfter_2 : cX3_spreadAfter.data.toList.drop 48 = dktX3_spreadAfter_2 := dk_seg dksX3_spreadAfter_1 24 rfl rfl
theorem dksX3_spreadAfter_3 : cX3_spreadAfter.data.toList.drop 72 = dktX3_spreadAfter_3 := dk_seg dksX3_spreadAfter_2 24 rfl rfl
theorem dX3_spreadAfter_0 : decode cX3_spreadAfter 0 = .ok (.aload_n 0, 1) := dk_42 (dk_at dksX3_spreadAfter_0 0 rfl rfl)
theorem dX3_spreadAfter_1 : decode cX3_spreadAfter 1 = .ok (.iload_n 1, 1) := dk_27 (dk_at dksX3_spreadAfter_0 1 rfl rfl)
theorem dX3_spreadAfter_2 : decode cX3_spreadAfter 2 = .ok (.iconst 0, 1) := dk_3 (dk_at dksX3_spreadAfter_0 2 rfl rfl)
theorem dX3_spreadAfter_3 : decode cX3_spreadAfter 3 = .ok (.bipush 20, 2) := dk_16 20 (dk_at dksX3_spreadAfter_0 3 rfl rfl)
theorem dX3_spreadAfter_5 : decode cX3_spreadAfter 5 = .ok (.invokestatic 78, 3) := dk_184 0 78 (dk_at dksX3_spreadAfter_0 5 rfl rfl)
theorem dX3_spreadAfter_8 : decode cX3_spreadAfter 8 = .ok (.ifCond .ne 7, 3) := dk_154 0 7 (dk_at dksX3_spreadAfter_0 8 rfl rfl)
theorem dX3_spreadAfter_11 : decode cX3_spreadAfter 11 = .ok (.iconst 1, 1) := dk_4 (dk_at dksX3_spreadAfter_0 11 rfl rfl)
theorem dX3_spreadAfter_12 : decode cX3_spreadAfter 12 = .ok (.goto 17, 3) := dk_167 0 17 (dk_at dksX3_spreadAfter_0 12 rfl rfl)
theorem dX3_spreadAfter_15 : decode cX3_spreadAfter 15 = .ok (.aload_n 0, 1) := dk_42 (dk_at dksX3_spreadAfter_0 15 rfl rfl)
theorem dX3_spreadAfter_16 : decode cX3_spreadAfter 16 = .ok (.getfield 7, 3) := dk_180 0 7 (dk_at dksX3_spreadAfter_0 16 rfl rfl)
theorem dX3_spreadAfter_19 : decode cX3_spreadAfter 19 = .ok (.iconst 1, 1) := dk_4 (dk_at dksX3_spreadAfter_0 19 rfl rfl)
theorem dX3_spreadAfter_20 : decode cX3_spreadAfter 20 = .ok (.iaload, 1) := dk_46 (dk_at dksX3_spreadAfter_0 20 rfl rfl)
theorem dX3_spreadAfter_21 : decode cX3_spreadAfter 21 = .ok (.ifCond .ne 7, 3) := dk_154 0 7 (dk_at dksX3_spreadAfter_0 21 rfl rfl)
theorem dX3_spreadAfter_24 : decode cX3_spreadAfter 24 = .ok (.iconst 2, 1) := dk_5 (dk_at dksX3_spreadAfter_1 0 rfl rfl)
theorem dX3_spreadAfter_25 : decode cX3_spreadAfter 25 = .ok (.goto 4, 3) := dk_167 0 4 (dk_at dksX3_spreadAfter_1 1 rfl rfl)
theorem dX3_spreadAfter_28 : decode cX3_spreadAfter 28 = .ok (.iconst 0, 1) := dk_3 (dk_at dksX3_spreadAfter_1 4 rfl rfl)
theorem dX3_spreadAfter_29 : decode cX3_spreadAfter 29 = .ok (.putfield 53, 3) := dk_181 0 53 (dk_at dksX3_spreadAfter_1 5 rfl rfl)
theorem dX3_spreadAfter_32 : decode cX3_spreadAfter 32 = .ok (.aload_n 0, 1) := dk_42 (dk_at dksX3_spreadAfter_1 8 rfl rfl)
theorem dX3_spreadAfter_33 : decode cX3_spreadAfter 33 = .ok (.getfield 53, 3) := dk_180 0 53 (dk_at dksX3_spreadAfter_1 9 rfl rfl)
theorem dX3_spreadAfter_36 : decode cX3_spreadAfter 36 = .ok (.ifCond .le 5, 3) := dk_158 0 5 (dk_at dksX3_spreadAfter_1 12 rfl rfl)
theorem dX3_spreadAfter_39 : decode cX3_spreadAfter 39 = .ok (.iconst 0, 1) := dk_3 (dk_at dksX3_spreadAfter_1 15 rfl rfl)
theorem dX3_spreadAfter_40 : decode cX3_spreadAfter 40 = .ok (.ireturn, 1) := dk_172 (dk_at dksX3_spreadAfter_1 16 rfl rfl)
theorem dX3_spreadAfter_41 : decode cX3_spreadAfter 41 = .ok (.aload_n 0, 1) := dk_42 (dk_at dksX3_spreadAfter_1 17 rfl rfl)
theorem dX3_spreadAfter_42 : decode cX3_spreadAfter 42 = .ok (.invokevirtual 185, 3) := dk_182 0 185 (dk_at dksX3_spreadAfter_1 18 rfl rfl)
theorem dX3_spreadAfter_45 : decode cX3_spreadAfter 45 = .ok (.iconst 0, 1) := dk_3 (dk_at dksX3_spreadAfter_1 21 rfl rfl)
theorem dX3_spreadAfter_46 : decode cX3_spreadAfter 46 = .ok (.istore_n 2, 1) := dk_61 (dk_at dksX3_spreadAfter_1 22 rfl rfl)
theorem dX3_spreadAfter_47 : decode cX3_spreadAfter 47 = .ok (.iload_n 2, 1) := dk_28 (dk_at dksX3_spreadAfter_1 23 rfl rfl)
theorem dX3_spreadAfter_48 : decode cX3_spreadAfter 48 = .ok (.iload_n 1, 1) := dk_27 (dk_at dksX3_spreadAfter_2 0 rfl rfl)
theorem dX3_spreadAfter_49 : decode cX3_spreadAfter 49 = .ok (.if_icmp .ge 14, 3) := dk_162 0 14 (dk_at dksX3_spreadAfter_2 1 rfl rfl)
theorem dX3_spreadAfter_52 : decode cX3_spreadAfter 52 = .ok (.aload_n 0, 1) := dk_42 (dk_at dksX3_spreadAfter_2 4 rfl rfl)
theorem dX3_spreadAfter_53 : decode cX3_spreadAfter 53 = .ok (.invokevirtual 123, 3) := dk_182 0 123 (dk_at dksX3_spreadAfter_2 5 rfl rfl)
theorem dX3_spreadAfter_56 : decode cX3_spreadAfter 56 = .ok (.istore_n 3, 1) := dk_62 (dk_at dksX3_spreadAfter_2 8 rfl rfl)
theorem dX3_spreadAfter_57 : decode cX3_spreadAfter 57 = .ok (.iinc 2 1, 3) := dk_132 2 1 (dk_at dksX3_spreadAfter_2 9 rfl rfl)
theorem dX3_spreadAfter_60 : decode cX3_spreadAfter 60 = .ok (.goto (-13), 3) := dk_167 255 243 (dk_at dksX3_spreadAfter_2 12 rfl rfl)
theorem dX3_spreadAfter_63 : decode cX3_spreadAfter 63 = .ok (.aload_n 0, 1) := dk_42 (dk_at dksX3_spreadAfter_2 15 rfl rfl)
theorem dX3_spreadAfter_64 : decode cX3_spreadAfter 64 = .ok (.invokevirtual 191, 3) := dk_182 0 191 (dk_at dksX3_spreadAfter_2 16 rfl rfl)
theorem dX3_spreadAfter_67 : decode cX3_spreadAfter 67 = .ok (.istore_n 2, 1) := dk_61 (dk_at dksX3_spreadAfter_2 19 rfl rfl)
theorem dX3_spreadAfter_68 : decode cX3_spreadAfter 68 = .ok (.aload_n 0, 1) := dk_42 (dk_at dksX3_spreadAfter_2 20 rfl rfl)
theorem dX3_spreadAfter_69 : decode cX3_spreadAfter 69 = .ok (.invokevirtual 188, 3) := dk_182 0 188 (dk_at dksX3_spreadAfter_2 21 rfl rfl)
theorem dX3_spreadAfter_72 : decode cX3_spreadAfter 72 = .ok (.iload_n 2, 1) := dk_28 (dk_at dksX3_spreadAfter_3 0 rfl rfl)
theorem dX3_spreadAfter_73 : decode cX3_spreadAfter 73 = .ok (.ireturn, 1) := dk_172 (dk_at dksX3_spreadAfter_3 1 rfl rfl)
abbrev cX3_spreadWith : ByteArray := prog_14_method_60_code
def yX3_spreadWith : MethodName := ⟨RX3, "spreadWith", "(II)I"⟩
def dkwX3_spreadWith_5 : List UInt8 := [16, 45, 21, 4, 96, 46, 21, 5, 104, 96, 62, 132, 4, 1, 167, 255, 156, 29, 172]
abbrev dktX3_spreadWith_5 : List UInt8 := dkwX3_spreadWith_5 ++ []
def dkwX3_spreadWith_4 : List UInt8 := [182, 0, 93, 21, 5, 162, 0, 13, 42, 21, 4, 21, 6, 182, 0, 93, 54, 5, 29, 42, 180, 0, 7]
abbrev dktX3_spreadWith_4 : List UInt8 := dkwX3_spreadWith_4 ++ dktX3_spreadWith_5
def dkwX3_spreadWith_3 : List UInt8 := [96, 54, 5, 42, 21, 4, 182, 0, 99, 54, 6, 21, 6, 2, 159, 0, 26, 42, 21, 4, 21, 6]
abbrev dktX3_spreadWith_3 : List UInt8 := dkwX3_spreadWith_3 ++ dktX3_spreadWith_4
def dkwX3_spreadWith_2 : List UInt8 := [21, 4, 96, 46, 27, 100, 184, 0, 82, 42, 180, 0, 7, 16, 27, 21, 4, 96, 46, 28, 100, 184, 0, 82]
abbrev dktX3_spreadWith_2 : List UInt8 := dkwX3_spreadWith_2 ++ dktX3_spreadWith_3
def dkwX3_spreadWith_1 : List UInt8 := [3, 172, 3, 62, 3, 54, 4, 21, 4, 42, 180, 0, 7, 3, 46, 162, 0, 95, 42, 180, 0, 7, 16, 9]
abbrev dktX3_spreadWith_1 : List UInt8 := dkwX3_spreadWith_1 ++ dktX3_spreadWith_2
def dkwX3_spreadWith_0 : List UInt8 := [42, 27, 28, 184, 0, 126, 153, 0, 7, 3, 167, 0, 4, 4, 181, 0, 53, 42, 180, 0, 53, 158, 0, 5]
abbrev dktX3_spreadWith_0 : List UInt8 := dkwX3_spreadWith_0 ++ dktX3_spreadWith_1
theorem dksX3_spreadWith_0 : cX3_spreadWith.data.toList.drop 0 = dktX3_spreadWith_0 := by decide +kernel
theorem dksX3_spreadWith_1 : cX3_spreadWith.data.toList.drop 24 = dktX3_spreadWith_1 := dk_seg dksX3_spreadWith_0 24 rfl rfl
theorem dksX3_spreadWith_2 : cX3_spreadWith.data.toList.drop 48 = dktX3_spreadWith_2 := dk_seg dksX3_spreadWith_1 24 rfl rfl
theorem dksX3_spreadWith_3 : cX3_spreadWith.data.toList.drop 72 = dktX3_spreadWith_3 := dk_seg dksX3_spreadWith_2 24 rfl rfl
theorem dksX3_spreadWith_4 : cX3_spreadWith.data.toList.drop 94 = dktX3_spreadWith_4 := dk_seg dksX3_spreadWith_3 22 rfl rfl
theorem dksX3_spreadWith_5 : cX3_spreadWith.data.toList.drop 117 = dktX3_spreadWith_5 := dk_seg dksX3_spreadWith_4 23 rfl rfl
theorem dX3_spreadWith_0 : decode cX3_spreadWith 0 = .ok (.aload_n 0, 1) := dk_42 (dk_at dksX3_spreadWith_0 0 rfl rfl)
theorem dX3_spreadWith_1 : decode cX3_spreadWith 1 = .ok (.iload_n 1, 1) := dk_27 (dk_at dksX3_spreadWith_0 1 rfl rfl)
theorem dX3_spreadWith_2 : decode cX3_spreadWith 2 = .ok (.iload_n 2, 1) := dk_28 (dk_at dksX3_spreadWith_0 2 rfl rfl)
theorem dX3_spreadWith_3 : decode cX3_spreadWith 3 = .ok (.invokestatic 126, 3) := dk_184 0 126 (dk_at dksX3_spreadWith_0 3 rfl rfl)
theorem dX3_spreadWith_6 : decode cX3_spreadWith 6 = .ok (.ifCond .eq 7, 3) := dk_153 0 7 (dk_at dksX3_spreadWith_0 6 rfl rfl)
theorem dX3_spreadWith_9 : decode cX3_spreadWith 9 = .ok (.iconst 0, 1) := dk_3 (dk_at dksX3_spreadWith_0 9 rfl rfl)
theorem dX3_spreadWith_10 : decode cX3_spreadWith 10 = .ok (.goto 4, 3) := dk_167 0 4 (dk_at dksX3_spreadWith_0 10 rfl rfl)
theorem dX3_spreadWith_13 : decode cX3_spreadWith 13 = .ok (.iconst 1, 1) := dk_4 (dk_at dksX3_spreadWith_0 13 rfl rfl)
theorem dX3_spreadWith_14 : decode cX3_spreadWith 14 = .ok (.putfield 53, 3) := dk_181 0 53 (dk_at dksX3_spreadWith_0 14 rfl rfl)
theorem dX3_spreadWith_17 : decode cX3_spreadWith 17 = .ok (.aload_n 0, 1) := dk_42 (dk_at dksX3_spreadWith_0 17 rfl rfl)
theorem dX3_spreadWith_18 : decode cX3_spreadWith 18 = .ok (.getfield 53, 3) := dk_180 0 53 (dk_at dksX3_spreadWith_0 18 rfl rfl)
theorem dX3_spreadWith_21 : decode cX3_spreadWith 21 = .ok (.ifCond .le 5, 3) := dk_158 0 5 (dk_at dksX3_spreadWith_0 21 rfl rfl)
theorem dX3_spreadWith_24 : decode cX3_spreadWith 24 = .ok (.iconst 0, 1) := dk_3 (dk_at dksX3_spreadWith_1 0 rfl rfl)
theorem dX3_spreadWith_25 : decode cX3_spreadWith 25 = .ok (.ireturn, 1) := dk_172 (dk_at dksX3_spreadWith_1 1 rfl rfl)
theorem dX3_spreadWith_26 : decode cX3_spreadWith 26 = .ok (.iconst 0, 1) := dk_3 (dk_at dksX3_spreadWith_1 2 rfl rfl)
theorem dX3_spreadWith_27 : decode cX3_spreadWith 27 = .ok (.istore_n 3, 1) := dk_62 (dk_at dksX3_spreadWith_1 3 rfl rfl)
theorem dX3_spreadWith_28 : decode cX3_spreadWith 28 = .ok (.iconst 0, 1) := dk_3 (dk_at dksX3_spreadWith_1 4 rfl rfl)
theorem dX3_spreadWith_29 : decode cX3_spreadWith 29 = .ok (.istore 4, 2) := dk_54 4 (dk_at dksX3_spreadWith_1 5 rfl rfl)
theorem dX3_spreadWith_31 : decode cX3_spreadWith 31 = .ok (.iload 4, 2) := dk_21 4 (dk_at dksX3_spreadWith_1 7 rfl rfl)
theorem dX3_spreadWith_33 : decode cX3_spreadWith 33 = .ok (.aload_n 0, 1) := dk_42 (dk_at dksX3_spreadWith_1 9 rfl rfl)
theorem dX3_spreadWith_34 : decode cX3_spreadWith 34 = .ok (.getfield 7, 3) := dk_180 0 7 (dk_at dksX3_spreadWith_1 10 rfl rfl)
theorem dX3_spreadWith_37 : decode cX3_spreadWith 37 = .ok (.iconst 0, 1) := dk_3 (dk_at dksX3_spreadWith_1 13 rfl rfl)
theorem dX3_spreadWith_38 : decode cX3_spreadWith 38 = .ok (.iaload, 1) := dk_46 (dk_at dksX3_spreadWith_1 14 rfl rfl)
theorem dX3_spreadWith_39 : decode cX3_spreadWith 39 = .ok (.if_icmp .ge 95, 3) := dk_162 0 95 (dk_at dksX3_spreadWith_1 15 rfl rfl)
theorem dX3_spreadWith_42 : decode cX3_spreadWith 42 = .ok (.aload_n 0, 1) := dk_42 (dk_at dksX3_spreadWith_1 18 rfl rfl)
theorem dX3_spreadWith_43 : decode cX3_spreadWith 43 = .ok (.getfield 7, 3) := dk_180 0 7 (dk_at dksX3_spreadWith_1 19 rfl rfl)
theorem dX3_spreadWith_46 : decode cX3_spreadWith 46 = .ok (.bipush 9, 2) := dk_16 9 (dk_at dksX3_spreadWith_1 22 rfl rfl)
theorem dX3_spreadWith_48 : decode cX3_spreadWith 48 = .ok (.iload 4, 2) := dk_21 4 (dk_at dksX3_spreadWith_2 0 rfl rfl)
theorem dX3_spreadWith_50 : decode cX3_spreadWith 50 = .ok (.iadd, 1) := dk_96 (dk_at dksX3_spreadWith_2 2 rfl rfl)
theorem dX3_spreadWith_51 : decode cX3_spreadWith 51 = .ok (.iaload, 1) := dk_46 (dk_at dksX3_spreadWith_2 3 rfl rfl)
theorem dX3_spreadWith_52 : decode cX3_spreadWith 52 = .ok (.iload_n 1, 1) := dk_27 (dk_at dksX3_spreadWith_2 4 rfl rfl)
theorem dX3_spreadWith_53 : decode cX3_spreadWith 53 = .ok (.isub, 1) := dk_100 (dk_at dksX3_spreadWith_2 5 rfl rfl)
theorem dX3_spreadWith_54 : decode cX3_spreadWith 54 = .ok (.invokestatic 82, 3) := dk_184 0 82 (dk_at dksX3_spreadWith_2 6 rfl rfl)
theorem dX3_spreadWith_57 : decode cX3_spreadWith 57 = .ok (.aload_n 0, 1) := dk_42 (dk_at dksX3_spreadWith_2 9 rfl rfl)
theorem dX3_spreadWith_58 : decode cX3_spreadWith 58 = .ok (.getfield 7, 3) := dk_180 0 7 (dk_at dksX3_spreadWith_2 10 rfl rfl)
theorem dX3_spreadWith_61 : decode cX3_spreadWith 61 = .ok (.bipush 27, 2) := dk_16 27 (dk_at dksX3_spreadWith_2 13 rfl rfl)
theorem dX3_spreadWith_63 : decode cX3_spreadWith 63 = .ok (.iload 4, 2) := dk_21 4 (dk_at dksX3_spreadWith_2 15 rfl rfl)
theorem dX3_spreadWith_65 : decode cX3_spreadWith 65 = .ok (.iadd, 1) := dk_96 (dk_at dksX3_spreadWith_2 17 rfl rfl)
theorem dX3_spreadWith_66 : decode cX3_spreadWith 66 = .ok (.iaload, 1) := dk_46 (dk_at dksX3_spreadWith_2 18 rfl rfl)
theorem dX3_spreadWith_67 : decode cX3_spreadWith 67 = .ok (.iload_n 2, 1) := dk_28 (dk_at dksX3_spreadWith_2 19 rfl rfl)
theorem dX3_spreadWith_68 : decode cX3_spreadWith 68 = .ok (.isub, 1) := dk_100 (dk_at dksX3_spreadWith_2 20 rfl rfl)
theorem dX3_spreadWith_69 : decode cX3_spreadWith 69 = .ok (.invokestatic 82, 3) := dk_184 0 82 (dk_at dksX3_spreadWith_2 21 rfl rfl)
theorem dX3_spreadWith_72 : decode cX3_spreadWith 72 = .ok (.iadd, 1) := dk_96 (dk_at dksX3_spreadWith_3 0 rfl rfl)
theorem dX3_spreadWith_73 : decode cX3_spreadWith 73 = .ok (.istore 5, 2) := dk_54 5 (dk_at dksX3_spreadWith_3 1 rfl rfl)
theorem dX3_spreadWith_75 : decode cX3_spreadWith 75 = .ok (.aload_n 0, 1) := dk_42 (dk_at dksX3_spreadWith_3 3 rfl rfl)
theorem dX3_spreadWith_76 : decode cX3_spreadWith 76 = .ok (.iload 4, 2) := dk_21 4 (dk_at dksX3_spreadWith_3 4 rfl rfl)
theorem dX3_spreadWith_78 : decode cX3_spreadWith 78 = .ok (.invokevirtual 99, 3) := dk_182 0 99 (dk_at dksX3_spreadWith_3 6 rfl rfl)
theorem dX3_spreadWith_81 : decode cX3_spreadWith 81 = .ok (.istore 6, 2) := dk_54 6 (dk_at dksX3_spreadWith_3 9 rfl rfl)
theorem dX3_spreadWith_83 : decode cX3_spreadWith 83 = .ok (.iload 6, 2) := dk_21 6 (dk_at dksX3_spreadWith_3 11 rfl rfl)
theorem dX3_spreadWith_85 : decode cX3_spreadWith 85 = .ok (.iconst (-1), 1) := dk_2 (dk_at dksX3_spreadWith_3 13 rfl rfl)
theorem dX3_spreadWith_86 : decode cX3_spreadWith 86 = .ok (.if_icmp .eq 26, 3) := dk_159 0 26 (dk_at dksX3_spreadWith_3 14 rfl rfl)
theorem dX3_spreadWith_89 : decode cX3_spreadWith 89 = .ok (.aload_n 0, 1) := dk_42 (dk_at dksX3_spreadWith_3 17 rfl rfl)
theorem dX3_spreadWith_90 : decode cX3_spreadWith 90 = .ok (.iload 4, 2) := dk_21 4 (dk_at dksX3_spreadWith_3 18 rfl rfl)
theorem dX3_spreadWith_92 : decode cX3_spreadWith 92 = .ok (.iload 6, 2) := dk_21 6 (dk_at dksX3_spreadWith_3 20 rfl rfl)
theorem dX3_spreadWith_94 : decode cX3_spreadWith 94 = .ok (.invokevirtual 93, 3) := dk_182 0 93 (dk_at dksX3_spreadWith_4 0 rfl rfl)
theorem dX3_spreadWith_97 : decode cX3_spreadWith 97 = .ok (.iload 5, 2) := dk_21 5 (dk_at dksX3_spreadWith_4 3 rfl rfl)
theorem dX3_spreadWith_99 : decode cX3_spreadWith 99 = .ok (.if_icmp .ge 13, 3) := dk_162 0 13 (dk_at dksX3_spreadWith_4 5 rfl rfl)
theorem dX3_spreadWith_102 : decode cX3_spreadWith 102 = .ok (.aload_n 0, 1) := dk_42 (dk_at dksX3_spreadWith_4 8 rfl rfl)
theorem dX3_spreadWith_103 : decode cX3_spreadWith 103 = .ok (.iload 4, 2) := dk_21 4 (dk_at dksX3_spreadWith_4 9 rfl rfl)
theorem dX3_spreadWith_105 : decode cX3_spreadWith 105 = .ok (.iload 6, 2) := dk_21 6 (dk_at dksX3_spreadWith_4 11 rfl rfl)
theorem dX3_spreadWith_107 : decode cX3_spreadWith 107 = .ok (.invokevirtual 93, 3) := dk_182 0 93 (dk_at dksX3_spreadWith_4 13 rfl rfl)
theorem dX3_spreadWith_110 : decode cX3_spreadWith 110 = .ok (.istore 5, 2) := dk_54 5 (dk_at dksX3_spreadWith_4 16 rfl rfl)
theorem dX3_spreadWith_112 : decode cX3_spreadWith 112 = .ok (.iload_n 3, 1) := dk_29 (dk_at dksX3_spreadWith_4 18 rfl rfl)
theorem dX3_spreadWith_113 : decode cX3_spreadWith 113 = .ok (.aload_n 0, 1) := dk_42 (dk_at dksX3_spreadWith_4 19 rfl rfl)
theorem dX3_spreadWith_114 : decode cX3_spreadWith 114 = .ok (.getfield 7, 3) := dk_180 0 7 (dk_at dksX3_spreadWith_4 20 rfl rfl)
theorem dX3_spreadWith_117 : decode cX3_spreadWith 117 = .ok (.bipush 45, 2) := dk_16 45 (dk_at dksX3_spreadWith_5 0 rfl rfl)
theorem dX3_spreadWith_119 : decode cX3_spreadWith 119 = .ok (.iload 4, 2) := dk_21 4 (dk_at dksX3_spreadWith_5 2 rfl rfl)
theorem dX3_spreadWith_121 : decode cX3_spreadWith 121 = .ok (.iadd, 1) := dk_96 (dk_at dksX3_spreadWith_5 4 rfl rfl)
theorem dX3_spreadWith_122 : decode cX3_spreadWith 122 = .ok (.iaload, 1) := dk_46 (dk_at dksX3_spreadWith_5 5 rfl rfl)
theorem dX3_spreadWith_123 : decode cX3_spreadWith 123 = .ok (.iload 5, 2) := dk_21 5 (dk_at dksX3_spreadWith_5 6 rfl rfl)
theorem dX3_spreadWith_125 : decode cX3_spreadWith 125 = .ok (.imul, 1) := dk_104 (dk_at dksX3_spreadWith_5 8 rfl rfl)
theorem dX3_spreadWith_126 : decode cX3_spreadWith 126 = .ok (.iadd, 1) := dk_96 (dk_at dksX3_spreadWith_5 9 rfl rfl)
theorem dX3_spreadWith_127 : decode cX3_spreadWith 127 = .ok (.istore_n 3, 1) := dk_62 (dk_at dksX3_spreadWith_5 10 rfl rfl)
theorem dX3_spreadWith_128 : decode cX3_spreadWith 128 = .ok (.iinc 4 1, 3) := dk_132 4 1 (dk_at dksX3_spreadWith_5 11 rfl rfl)
theorem dX3_spreadWith_131 : decode cX3_spreadWith 131 = .ok (.goto (-100), 3) := dk_167 255 156 (dk_at dksX3_spreadWith_5 14 rfl rfl)
theorem dX3_spreadWith_134 : decode cX3_spreadWith 134 = .ok (.iload_n 3, 1) := dk_29 (dk_at dksX3_spreadWith_5 17 rfl rfl)
theorem dX3_spreadWith_135 : decode cX3_spreadWith 135 = .ok (.ireturn, 1) := dk_172 (dk_at dksX3_spreadWith_5 18 rfl rfl)
abbrev cX3_nearest : ByteArray := prog_14_method_61_code
def yX3_nearest : MethodName := ⟨RX3, "nearest", "(II)I"⟩
def dkwX3_nearest_2 : List UInt8 := [172]
abbrev dktX3_nearest_2 : List UInt8 := dkwX3_nearest_2 ++ []
def dkwX3_nearest_1 : List UInt8 := [167, 0, 4, 3, 181, 0, 53, 42, 180, 0, 53, 158, 0, 7, 3, 167, 0, 9, 42, 27, 28, 182, 0, 89]
abbrev dktX3_nearest_1 : List UInt8 := dkwX3_nearest_1 ++ dktX3_nearest_2
def dkwX3_nearest_0 : List UInt8 := [42, 27, 28, 184, 0, 126, 154, 0, 7, 4, 167, 0, 17, 42, 180, 0, 7, 4, 46, 154, 0, 7, 5]
abbrev dktX3_nearest_0 : List UInt8 := dkwX3_nearest_0 ++ dktX3_nearest_1
theorem dksX3_nearest_0 : cX3_nearest.data.toList.drop 0 = dktX3_nearest_0 := by decide +kernel
theorem dksX3_nearest_1 : cX3_nearest.data.toList.drop 23 = dktX3_nearest_1 := dk_seg dksX3_nearest_0 23 rfl rfl
theorem dksX3_nearest_2 : cX3_nearest.data.toList.drop 47 = dktX3_nearest_2 := dk_seg dksX3_nearest_1 24 rfl rfl
theorem dX3_nearest_0 : decode cX3_nearest 0 = .ok (.aload_n 0, 1) := dk_42 (dk_at dksX3_nearest_0 0 rfl rfl)
theorem dX3_nearest_1 : decode cX3_nearest 1 = .ok (.iload_n 1, 1) := dk_27 (dk_at dksX3_nearest_0 1 rfl rfl)
theorem dX3_nearest_2 : decode cX3_nearest 2 = .ok (.iload_n 2, 1) := dk_28 (dk_at dksX3_nearest_0 2 rfl rfl)
theorem dX3_nearest_3 : decode cX3_nearest 3 = .ok (.invokestatic 126, 3) := dk_184 0 126 (dk_at dksX3_nearest_0 3 rfl rfl)
theorem dX3_nearest_6 : decode cX3_nearest 6 = .ok (.ifCond .ne 7, 3) := dk_154 0 7 (dk_at dksX3_nearest_0 6 rfl rfl)
theorem dX3_nearest_9 : decode cX3_nearest 9 = .ok (.iconst 1, 1) := dk_4 (dk_at dksX3_nearest_0 9 rfl rfl)
theorem dX3_nearest_10 : decode cX3_nearest 10 = .ok (.goto 17, 3) := dk_167 0 17 (dk_at dksX3_nearest_0 10 rfl rfl)
theorem dX3_nearest_13 : decode cX3_nearest 13 = .ok (.aload_n 0, 1) := dk_42 (dk_at dksX3_nearest_0 13 rfl rfl)
theorem dX3_nearest_14 : decode cX3_nearest 14 = .ok (.getfield 7, 3) := dk_180 0 7 (dk_at dksX3_nearest_0 14 rfl rfl)
theorem dX3_nearest_17 : decode cX3_nearest 17 = .ok (.iconst 1, 1) := dk_4 (dk_at dksX3_nearest_0 17 rfl rfl)
theorem dX3_nearest_18 : decode cX3_nearest 18 = .ok (.iaload, 1) := dk_46 (dk_at dksX3_nearest_0 18 rfl rfl)
theorem dX3_nearest_19 : decode cX3_nearest 19 = .ok (.ifCond .ne 7, 3) := dk_154 0 7 (dk_at dksX3_nearest_0 19 rfl rfl)
theorem dX3_nearest_22 : decode cX3_nearest 22 = .ok (.iconst 2, 1) := dk_5 (dk_at dksX3_nearest_0 22 rfl rfl)
theorem dX3_nearest_23 : decode cX3_nearest 23 = .ok (.goto 4, 3) := dk_167 0 4 (dk_at dksX3_nearest_1 0 rfl rfl)
theorem dX3_nearest_26 : decode cX3_nearest 26 = .ok (.iconst 0, 1) := dk_3 (dk_at dksX3_nearest_1 3 rfl rfl)
theorem dX3_nearest_27 : decode cX3_nearest 27 = .ok (.putfield 53, 3) := dk_181 0 53 (dk_at dksX3_nearest_1 4 rfl rfl)
theorem dX3_nearest_30 : decode cX3_nearest 30 = .ok (.aload_n 0, 1) := dk_42 (dk_at dksX3_nearest_1 7 rfl rfl)
theorem dX3_nearest_31 : decode cX3_nearest 31 = .ok (.getfield 53, 3) := dk_180 0 53 (dk_at dksX3_nearest_1 8 rfl rfl)
theorem dX3_nearest_34 : decode cX3_nearest 34 = .ok (.ifCond .le 7, 3) := dk_158 0 7 (dk_at dksX3_nearest_1 11 rfl rfl)
theorem dX3_nearest_37 : decode cX3_nearest 37 = .ok (.iconst 0, 1) := dk_3 (dk_at dksX3_nearest_1 14 rfl rfl)
theorem dX3_nearest_38 : decode cX3_nearest 38 = .ok (.goto 9, 3) := dk_167 0 9 (dk_at dksX3_nearest_1 15 rfl rfl)
theorem dX3_nearest_41 : decode cX3_nearest 41 = .ok (.aload_n 0, 1) := dk_42 (dk_at dksX3_nearest_1 18 rfl rfl)
theorem dX3_nearest_42 : decode cX3_nearest 42 = .ok (.iload_n 1, 1) := dk_27 (dk_at dksX3_nearest_1 19 rfl rfl)
theorem dX3_nearest_43 : decode cX3_nearest 43 = .ok (.iload_n 2, 1) := dk_28 (dk_at dksX3_nearest_1 20 rfl rfl)
theorem dX3_nearest_44 : decode cX3_nearest 44 = .ok (.invokevirtual 89, 3) := dk_182 0 89 (dk_at dksX3_nearest_1 21 rfl rfl)
theorem dX3_nearest_47 : decode cX3_nearest 47 = .ok (.ireturn, 1) := dk_172 (dk_at dksX3_nearest_2 0 rfl rfl)
abbrev cX3_strays : ByteArray := prog_14_method_62_code
def yX3_strays : MethodName := ⟨RX3, "strays", "()I"⟩
def dkwX3_strays_0 : List UInt8 := [42, 3, 181, 0, 53, 42, 182, 0, 194, 172]
abbrev dktX3_strays_0 : List UInt8 := dkwX3_strays_0 ++ []
theorem dksX3_strays_0 : cX3_strays.data.toList.drop 0 = dktX3_strays_0 := by decide +kernel
theorem dX3_strays_0 : decode cX3_strays 0 = .ok (.aload_n 0, 1) := dk_42 (dk_at dksX3_strays_0 0 rfl rfl)
theorem dX3_strays_1 : decode cX3_strays 1 = .ok (.iconst 0, 1) := dk_3 (dk_at dksX3_strays_0 1 rfl rfl)
theorem dX3_strays_2 : decode cX3_strays 2 = .ok (.putfield 53, 3) := dk_181 0 53 (dk_at dksX3_strays_0 2 rfl rfl)
theorem dX3_strays_5 : decode cX3_strays 5 = .ok (.aload_n 0, 1) := dk_42 (dk_at dksX3_strays_0 5 rfl rfl)
theorem dX3_strays_6 : decode cX3_strays 6 = .ok (.invokevirtual 194, 3) := dk_182 0 194 (dk_at dksX3_strays_0 6 rfl rfl)
theorem dX3_strays_9 : decode cX3_strays 9 = .ok (.ireturn, 1) := dk_172 (dk_at dksX3_strays_0 9 rfl rfl)
abbrev cX3_strayMany : ByteArray := prog_14_method_24_code
def yX3_strayMany : MethodName := ⟨RX3, "strayMany", "()I"⟩
def dkwX3_strayMany_1 : List UInt8 := [167, 0, 4, 3, 96, 60, 132, 2, 1, 167, 255, 227, 27, 172]
abbrev dktX3_strayMany_1 : List UInt8 := dkwX3_strayMany_1 ++ []
def dkwX3_strayMany_0 : List UInt8 := [3, 60, 3, 61, 28, 42, 180, 0, 7, 3, 46, 162, 0, 25, 27, 42, 28, 182, 0, 102, 153, 0, 7, 4]
abbrev dktX3_strayMany_0 : List UInt8 := dkwX3_strayMany_0 ++ dktX3_strayMany_1
theorem dksX3_strayMany_0 : cX3_strayMany.data.toList.drop 0 = dktX3_strayMany_0 := by decide +kernel
theorem dksX3_strayMany_1 : cX3_strayMany.data.toList.drop 24 = dktX3_strayMany_1 := dk_seg dksX3_strayMany_0 24 rfl rfl
theorem dX3_strayMany_0 : decode cX3_strayMany 0 = .ok (.iconst 0, 1) := dk_3 (dk_at dksX3_strayMany_0 0 rfl rfl)
theorem dX3_strayMany_1 : decode cX3_strayMany 1 = .ok (.istore_n 1, 1) := dk_60 (dk_at dksX3_strayMany_0 1 rfl rfl)
theorem dX3_strayMany_2 : decode cX3_strayMany 2 = .ok (.iconst 0, 1) := dk_3 (dk_at dksX3_strayMany_0 2 rfl rfl)
theorem dX3_strayMany_3 : decode cX3_strayMany 3 = .ok (.istore_n 2, 1) := dk_61 (dk_at dksX3_strayMany_0 3 rfl rfl)
theorem dX3_strayMany_4 : decode cX3_strayMany 4 = .ok (.iload_n 2, 1) := dk_28 (dk_at dksX3_strayMany_0 4 rfl rfl)
theorem dX3_strayMany_5 : decode cX3_strayMany 5 = .ok (.aload_n 0, 1) := dk_42 (dk_at dksX3_strayMany_0 5 rfl rfl)
theorem dX3_strayMany_6 : decode cX3_strayMany 6 = .ok (.getfield 7, 3) := dk_180 0 7 (dk_at dksX3_strayMany_0 6 rfl rfl)
theorem dX3_strayMany_9 : decode cX3_strayMany 9 = .ok (.iconst 0, 1) := dk_3 (dk_at dksX3_strayMany_0 9 rfl rfl)
theorem dX3_strayMany_10 : decode cX3_strayMany 10 = .ok (.iaload, 1) := dk_46 (dk_at dksX3_strayMany_0 10 rfl rfl)
theorem dX3_strayMany_11 : decode cX3_strayMany 11 = .ok (.if_icmp .ge 25, 3) := dk_162 0 25 (dk_at dksX3_strayMany_0 11 rfl rfl)
theorem dX3_strayMany_14 : decode cX3_strayMany 14 = .ok (.iload_n 1, 1) := dk_27 (dk_at dksX3_strayMany_0 14 rfl rfl)
theorem dX3_strayMany_15 : decode cX3_strayMany 15 = .ok (.aload_n 0, 1) := dk_42 (dk_at dksX3_strayMany_0 15 rfl rfl)
theorem dX3_strayMany_16 : decode cX3_strayMany 16 = .ok (.iload_n 2, 1) := dk_28 (dk_at dksX3_strayMany_0 16 rfl rfl)
theorem dX3_strayMany_17 : decode cX3_strayMany 17 = .ok (.invokevirtual 102, 3) := dk_182 0 102 (dk_at dksX3_strayMany_0 17 rfl rfl)
theorem dX3_strayMany_20 : decode cX3_strayMany 20 = .ok (.ifCond .eq 7, 3) := dk_153 0 7 (dk_at dksX3_strayMany_0 20 rfl rfl)
theorem dX3_strayMany_23 : decode cX3_strayMany 23 = .ok (.iconst 1, 1) := dk_4 (dk_at dksX3_strayMany_0 23 rfl rfl)
theorem dX3_strayMany_24 : decode cX3_strayMany 24 = .ok (.goto 4, 3) := dk_167 0 4 (dk_at dksX3_strayMany_1 0 rfl rfl)
theorem dX3_strayMany_27 : decode cX3_strayMany 27 = .ok (.iconst 0, 1) := dk_3 (dk_at dksX3_strayMany_1 3 rfl rfl)
theorem dX3_strayMany_28 : decode cX3_strayMany 28 = .ok (.iadd, 1) := dk_96 (dk_at dksX3_strayMany_1 4 rfl rfl)
theorem dX3_strayMany_29 : decode cX3_strayMany 29 = .ok (.istore_n 1, 1) := dk_60 (dk_at dksX3_strayMany_1 5 rfl rfl)
theorem dX3_strayMany_30 : decode cX3_strayMany 30 = .ok (.iinc 2 1, 3) := dk_132 2 1 (dk_at dksX3_strayMany_1 6 rfl rfl)
theorem dX3_strayMany_33 : decode cX3_strayMany 33 = .ok (.goto (-29), 3) := dk_167 255 227 (dk_at dksX3_strayMany_1 9 rfl rfl)
theorem dX3_strayMany_36 : decode cX3_strayMany 36 = .ok (.iload_n 1, 1) := dk_27 (dk_at dksX3_strayMany_1 12 rfl rfl)
theorem dX3_strayMany_37 : decode cX3_strayMany 37 = .ok (.ireturn, 1) := dk_172 (dk_at dksX3_strayMany_1 13 rfl rfl)
abbrev cX3_stray : ByteArray := prog_14_method_63_code
def yX3_stray : MethodName := ⟨RX3, "stray", "(I)I"⟩
def dkwX3_stray_2 : List UInt8 := [182, 0, 69, 172]
abbrev dktX3_stray_2 : List UInt8 := dkwX3_stray_2 ++ []
def dkwX3_stray_1 : List UInt8 := [154, 0, 6, 167, 0, 13, 28, 27, 160, 0, 5, 29, 172, 132, 2, 1, 132, 3, 1, 167, 255, 222, 42, 4]
abbrev dktX3_stray_1 : List UInt8 := dkwX3_stray_1 ++ dktX3_stray_2
def dkwX3_stray_0 : List UInt8 := [42, 3, 181, 0, 53, 3, 61, 3, 62, 29, 42, 180, 0, 7, 3, 46, 162, 0, 30, 42, 29, 182, 0, 102]
abbrev dktX3_stray_0 : List UInt8 := dkwX3_stray_0 ++ dktX3_stray_1
theorem dksX3_stray_0 : cX3_stray.data.toList.drop 0 = dktX3_stray_0 := by decide +kernel
theorem dksX3_stray_1 : cX3_stray.data.toList.drop 24 = dktX3_stray_1 := dk_seg dksX3_stray_0 24 rfl rfl
theorem dksX3_stray_2 : cX3_stray.data.toList.drop 48 = dktX3_stray_2 := dk_seg dksX3_stray_1 24 rfl rfl
theorem dX3_stray_0 : decode cX3_stray 0 = .ok (.aload_n 0, 1) := dk_42 (dk_at dksX3_stray_0 0 rfl rfl)
theorem dX3_stray_1 : decode cX3_stray 1 = .ok (.iconst 0, 1) := dk_3 (dk_at dksX3_stray_0 1 rfl rfl)
theorem dX3_stray_2 : decode cX3_stray 2 = .ok (.putfield 53, 3) := dk_181 0 53 (dk_at dksX3_stray_0 2 rfl rfl)
theorem dX3_stray_5 : decode cX3_stray 5 = .ok (.iconst 0, 1) := dk_3 (dk_at dksX3_stray_0 5 rfl rfl)
theorem dX3_stray_6 : decode cX3_stray 6 = .ok (.istore_n 2, 1) := dk_61 (dk_at dksX3_stray_0 6 rfl rfl)
theorem dX3_stray_7 : decode cX3_stray 7 = .ok (.iconst 0, 1) := dk_3 (dk_at dksX3_stray_0 7 rfl rfl)
theorem dX3_stray_8 : decode cX3_stray 8 = .ok (.istore_n 3, 1) := dk_62 (dk_at dksX3_stray_0 8 rfl rfl)
theorem dX3_stray_9 : decode cX3_stray 9 = .ok (.iload_n 3, 1) := dk_29 (dk_at dksX3_stray_0 9 rfl rfl)
theorem dX3_stray_10 : decode cX3_stray 10 = .ok (.aload_n 0, 1) := dk_42 (dk_at dksX3_stray_0 10 rfl rfl)
theorem dX3_stray_11 : decode cX3_stray 11 = .ok (.getfield 7, 3) := dk_180 0 7 (dk_at dksX3_stray_0 11 rfl rfl)
theorem dX3_stray_14 : decode cX3_stray 14 = .ok (.iconst 0, 1) := dk_3 (dk_at dksX3_stray_0 14 rfl rfl)
theorem dX3_stray_15 : decode cX3_stray 15 = .ok (.iaload, 1) := dk_46 (dk_at dksX3_stray_0 15 rfl rfl)
theorem dX3_stray_16 : decode cX3_stray 16 = .ok (.if_icmp .ge 30, 3) := dk_162 0 30 (dk_at dksX3_stray_0 16 rfl rfl)
theorem dX3_stray_19 : decode cX3_stray 19 = .ok (.aload_n 0, 1) := dk_42 (dk_at dksX3_stray_0 19 rfl rfl)
theorem dX3_stray_20 : decode cX3_stray 20 = .ok (.iload_n 3, 1) := dk_29 (dk_at dksX3_stray_0 20 rfl rfl)
theorem dX3_stray_21 : decode cX3_stray 21 = .ok (.invokevirtual 102, 3) := dk_182 0 102 (dk_at dksX3_stray_0 21 rfl rfl)
theorem dX3_stray_24 : decode cX3_stray 24 = .ok (.ifCond .ne 6, 3) := dk_154 0 6 (dk_at dksX3_stray_1 0 rfl rfl)
theorem dX3_stray_27 : decode cX3_stray 27 = .ok (.goto 13, 3) := dk_167 0 13 (dk_at dksX3_stray_1 3 rfl rfl)
theorem dX3_stray_30 : decode cX3_stray 30 = .ok (.iload_n 2, 1) := dk_28 (dk_at dksX3_stray_1 6 rfl rfl)
theorem dX3_stray_31 : decode cX3_stray 31 = .ok (.iload_n 1, 1) := dk_27 (dk_at dksX3_stray_1 7 rfl rfl)
theorem dX3_stray_32 : decode cX3_stray 32 = .ok (.if_icmp .ne 5, 3) := dk_160 0 5 (dk_at dksX3_stray_1 8 rfl rfl)
theorem dX3_stray_35 : decode cX3_stray 35 = .ok (.iload_n 3, 1) := dk_29 (dk_at dksX3_stray_1 11 rfl rfl)
theorem dX3_stray_36 : decode cX3_stray 36 = .ok (.ireturn, 1) := dk_172 (dk_at dksX3_stray_1 12 rfl rfl)
theorem dX3_stray_37 : decode cX3_stray 37 = .ok (.iinc 2 1, 3) := dk_132 2 1 (dk_at dksX3_stray_1 13 rfl rfl)
theorem dX3_stray_40 : decode cX3_stray 40 = .ok (.iinc 3 1, 3) := dk_132 3 1 (dk_at dksX3_stray_1 16 rfl rfl)
theorem dX3_stray_43 : decode cX3_stray 43 = .ok (.goto (-34), 3) := dk_167 255 222 (dk_at dksX3_stray_1 19 rfl rfl)
theorem dX3_stray_46 : decode cX3_stray 46 = .ok (.aload_n 0, 1) := dk_42 (dk_at dksX3_stray_1 22 rfl rfl)
theorem dX3_stray_47 : decode cX3_stray 47 = .ok (.iconst 1, 1) := dk_4 (dk_at dksX3_stray_1 23 rfl rfl)
theorem dX3_stray_48 : decode cX3_stray 48 = .ok (.invokevirtual 69, 3) := dk_182 0 69 (dk_at dksX3_stray_2 0 rfl rfl)
theorem dX3_stray_51 : decode cX3_stray 51 = .ok (.ireturn, 1) := dk_172 (dk_at dksX3_stray_2 3 rfl rfl)
abbrev cX3_dog : ByteArray := prog_14_method_64_code
def yX3_dog : MethodName := ⟨RX3, "dog", "(II)I"⟩
def dkwX3_dog_0 : List UInt8 := [42, 182, 0, 149, 42, 42, 27, 28, 182, 0, 197, 5, 182, 0, 155, 172]
abbrev dktX3_dog_0 : List UInt8 := dkwX3_dog_0 ++ []
theorem dksX3_dog_0 : cX3_dog.data.toList.drop 0 = dktX3_dog_0 := by decide +kernel
theorem dX3_dog_0 : decode cX3_dog 0 = .ok (.aload_n 0, 1) := dk_42 (dk_at dksX3_dog_0 0 rfl rfl)
theorem dX3_dog_1 : decode cX3_dog 1 = .ok (.invokevirtual 149, 3) := dk_182 0 149 (dk_at dksX3_dog_0 1 rfl rfl)
theorem dX3_dog_4 : decode cX3_dog 4 = .ok (.aload_n 0, 1) := dk_42 (dk_at dksX3_dog_0 4 rfl rfl)
theorem dX3_dog_5 : decode cX3_dog 5 = .ok (.aload_n 0, 1) := dk_42 (dk_at dksX3_dog_0 5 rfl rfl)
theorem dX3_dog_6 : decode cX3_dog 6 = .ok (.iload_n 1, 1) := dk_27 (dk_at dksX3_dog_0 6 rfl rfl)
theorem dX3_dog_7 : decode cX3_dog 7 = .ok (.iload_n 2, 1) := dk_28 (dk_at dksX3_dog_0 7 rfl rfl)
theorem dX3_dog_8 : decode cX3_dog 8 = .ok (.invokevirtual 197, 3) := dk_182 0 197 (dk_at dksX3_dog_0 8 rfl rfl)
theorem dX3_dog_11 : decode cX3_dog 11 = .ok (.iconst 2, 1) := dk_5 (dk_at dksX3_dog_0 11 rfl rfl)
theorem dX3_dog_12 : decode cX3_dog 12 = .ok (.invokevirtual 155, 3) := dk_182 0 155 (dk_at dksX3_dog_0 12 rfl rfl)
theorem dX3_dog_15 : decode cX3_dog 15 = .ok (.ireturn, 1) := dk_172 (dk_at dksX3_dog_0 15 rfl rfl)
abbrev cX3_sends : ByteArray := prog_14_method_41_code
def yX3_sends : MethodName := ⟨RX3, "sends", "(II)I"⟩
def dkwX3_sends_2 : List UInt8 := [180, 0, 7, 16, 6, 27, 96, 28, 79, 42, 29, 182, 0, 133, 172]
abbrev dktX3_sends_2 : List UInt8 := dkwX3_sends_2 ++ []
def dkwX3_sends_1 : List UInt8 := [42, 180, 0, 7, 16, 6, 27, 96, 46, 62, 29, 28, 160, 0, 11, 42, 16, 7, 28, 182, 0, 130, 172, 42]
abbrev dktX3_sends_1 : List UInt8 := dkwX3_sends_1 ++ dktX3_sends_2
def dkwX3_sends_0 : List UInt8 := [27, 3, 5, 184, 0, 78, 153, 0, 16, 42, 28, 182, 0, 142, 154, 0, 10, 28, 2, 159, 0, 5, 2, 172]
abbrev dktX3_sends_0 : List UInt8 := dkwX3_sends_0 ++ dktX3_sends_1
theorem dksX3_sends_0 : cX3_sends.data.toList.drop 0 = dktX3_sends_0 := by decide +kernel
theorem dksX3_sends_1 : cX3_sends.data.toList.drop 24 = dktX3_sends_1 := dk_seg dksX3_sends_0 24 rfl rfl
theorem dksX3_sends_2 : cX3_sends.data.toList.drop 48 = dktX3_sends_2 := dk_seg dksX3_sends_1 24 rfl rfl
theorem dX3_sends_0 : decode cX3_sends 0 = .ok (.iload_n 1, 1) := dk_27 (dk_at dksX3_sends_0 0 rfl rfl)
theorem dX3_sends_1 : decode cX3_sends 1 = .ok (.iconst 0, 1) := dk_3 (dk_at dksX3_sends_0 1 rfl rfl)
theorem dX3_sends_2 : decode cX3_sends 2 = .ok (.iconst 2, 1) := dk_5 (dk_at dksX3_sends_0 2 rfl rfl)
theorem dX3_sends_3 : decode cX3_sends 3 = .ok (.invokestatic 78, 3) := dk_184 0 78 (dk_at dksX3_sends_0 3 rfl rfl)
theorem dX3_sends_6 : decode cX3_sends 6 = .ok (.ifCond .eq 16, 3) := dk_153 0 16 (dk_at dksX3_sends_0 6 rfl rfl)
theorem dX3_sends_9 : decode cX3_sends 9 = .ok (.aload_n 0, 1) := dk_42 (dk_at dksX3_sends_0 9 rfl rfl)
theorem dX3_sends_10 : decode cX3_sends 10 = .ok (.iload_n 2, 1) := dk_28 (dk_at dksX3_sends_0 10 rfl rfl)
theorem dX3_sends_11 : decode cX3_sends 11 = .ok (.invokevirtual 142, 3) := dk_182 0 142 (dk_at dksX3_sends_0 11 rfl rfl)
theorem dX3_sends_14 : decode cX3_sends 14 = .ok (.ifCond .ne 10, 3) := dk_154 0 10 (dk_at dksX3_sends_0 14 rfl rfl)
theorem dX3_sends_17 : decode cX3_sends 17 = .ok (.iload_n 2, 1) := dk_28 (dk_at dksX3_sends_0 17 rfl rfl)
theorem dX3_sends_18 : decode cX3_sends 18 = .ok (.iconst (-1), 1) := dk_2 (dk_at dksX3_sends_0 18 rfl rfl)
theorem dX3_sends_19 : decode cX3_sends 19 = .ok (.if_icmp .eq 5, 3) := dk_159 0 5 (dk_at dksX3_sends_0 19 rfl rfl)
theorem dX3_sends_22 : decode cX3_sends 22 = .ok (.iconst (-1), 1) := dk_2 (dk_at dksX3_sends_0 22 rfl rfl)
theorem dX3_sends_23 : decode cX3_sends 23 = .ok (.ireturn, 1) := dk_172 (dk_at dksX3_sends_0 23 rfl rfl)
theorem dX3_sends_24 : decode cX3_sends 24 = .ok (.aload_n 0, 1) := dk_42 (dk_at dksX3_sends_1 0 rfl rfl)
theorem dX3_sends_25 : decode cX3_sends 25 = .ok (.getfield 7, 3) := dk_180 0 7 (dk_at dksX3_sends_1 1 rfl rfl)
theorem dX3_sends_28 : decode cX3_sends 28 = .ok (.bipush 6, 2) := dk_16 6 (dk_at dksX3_sends_1 4 rfl rfl)
theorem dX3_sends_30 : decode cX3_sends 30 = .ok (.iload_n 1, 1) := dk_27 (dk_at dksX3_sends_1 6 rfl rfl)
theorem dX3_sends_31 : decode cX3_sends 31 = .ok (.iadd, 1) := dk_96 (dk_at dksX3_sends_1 7 rfl rfl)
theorem dX3_sends_32 : decode cX3_sends 32 = .ok (.iaload, 1) := dk_46 (dk_at dksX3_sends_1 8 rfl rfl)
theorem dX3_sends_33 : decode cX3_sends 33 = .ok (.istore_n 3, 1) := dk_62 (dk_at dksX3_sends_1 9 rfl rfl)
theorem dX3_sends_34 : decode cX3_sends 34 = .ok (.iload_n 3, 1) := dk_29 (dk_at dksX3_sends_1 10 rfl rfl)
theorem dX3_sends_35 : decode cX3_sends 35 = .ok (.iload_n 2, 1) := dk_28 (dk_at dksX3_sends_1 11 rfl rfl)
theorem dX3_sends_36 : decode cX3_sends 36 = .ok (.if_icmp .ne 11, 3) := dk_160 0 11 (dk_at dksX3_sends_1 12 rfl rfl)
theorem dX3_sends_39 : decode cX3_sends 39 = .ok (.aload_n 0, 1) := dk_42 (dk_at dksX3_sends_1 15 rfl rfl)
theorem dX3_sends_40 : decode cX3_sends 40 = .ok (.bipush 7, 2) := dk_16 7 (dk_at dksX3_sends_1 16 rfl rfl)
theorem dX3_sends_42 : decode cX3_sends 42 = .ok (.iload_n 2, 1) := dk_28 (dk_at dksX3_sends_1 18 rfl rfl)
theorem dX3_sends_43 : decode cX3_sends 43 = .ok (.invokevirtual 130, 3) := dk_182 0 130 (dk_at dksX3_sends_1 19 rfl rfl)
theorem dX3_sends_46 : decode cX3_sends 46 = .ok (.ireturn, 1) := dk_172 (dk_at dksX3_sends_1 22 rfl rfl)
theorem dX3_sends_47 : decode cX3_sends 47 = .ok (.aload_n 0, 1) := dk_42 (dk_at dksX3_sends_1 23 rfl rfl)
theorem dX3_sends_48 : decode cX3_sends 48 = .ok (.getfield 7, 3) := dk_180 0 7 (dk_at dksX3_sends_2 0 rfl rfl)
theorem dX3_sends_51 : decode cX3_sends 51 = .ok (.bipush 6, 2) := dk_16 6 (dk_at dksX3_sends_2 3 rfl rfl)
theorem dX3_sends_53 : decode cX3_sends 53 = .ok (.iload_n 1, 1) := dk_27 (dk_at dksX3_sends_2 5 rfl rfl)
theorem dX3_sends_54 : decode cX3_sends 54 = .ok (.iadd, 1) := dk_96 (dk_at dksX3_sends_2 6 rfl rfl)
theorem dX3_sends_55 : decode cX3_sends 55 = .ok (.iload_n 2, 1) := dk_28 (dk_at dksX3_sends_2 7 rfl rfl)
theorem dX3_sends_56 : decode cX3_sends 56 = .ok (.iastore, 1) := dk_79 (dk_at dksX3_sends_2 8 rfl rfl)
theorem dX3_sends_57 : decode cX3_sends 57 = .ok (.aload_n 0, 1) := dk_42 (dk_at dksX3_sends_2 9 rfl rfl)
theorem dX3_sends_58 : decode cX3_sends 58 = .ok (.iload_n 3, 1) := dk_29 (dk_at dksX3_sends_2 10 rfl rfl)
theorem dX3_sends_59 : decode cX3_sends 59 = .ok (.invokevirtual 133, 3) := dk_182 0 133 (dk_at dksX3_sends_2 11 rfl rfl)
theorem dX3_sends_62 : decode cX3_sends 62 = .ok (.ireturn, 1) := dk_172 (dk_at dksX3_sends_2 14 rfl rfl)
abbrev cX3_fetch : ByteArray := prog_14_method_65_code
def yX3_fetch : MethodName := ⟨RX3, "fetch", "(I)I"⟩
def dkwX3_fetch_0 : List UInt8 := [42, 182, 0, 149, 42, 42, 27, 182, 0, 200, 5, 182, 0, 155, 172]
abbrev dktX3_fetch_0 : List UInt8 := dkwX3_fetch_0 ++ []
theorem dksX3_fetch_0 : cX3_fetch.data.toList.drop 0 = dktX3_fetch_0 := by decide +kernel
theorem dX3_fetch_0 : decode cX3_fetch 0 = .ok (.aload_n 0, 1) := dk_42 (dk_at dksX3_fetch_0 0 rfl rfl)
theorem dX3_fetch_1 : decode cX3_fetch 1 = .ok (.invokevirtual 149, 3) := dk_182 0 149 (dk_at dksX3_fetch_0 1 rfl rfl)
theorem dX3_fetch_4 : decode cX3_fetch 4 = .ok (.aload_n 0, 1) := dk_42 (dk_at dksX3_fetch_0 4 rfl rfl)
theorem dX3_fetch_5 : decode cX3_fetch 5 = .ok (.aload_n 0, 1) := dk_42 (dk_at dksX3_fetch_0 5 rfl rfl)
theorem dX3_fetch_6 : decode cX3_fetch 6 = .ok (.iload_n 1, 1) := dk_27 (dk_at dksX3_fetch_0 6 rfl rfl)
theorem dX3_fetch_7 : decode cX3_fetch 7 = .ok (.invokevirtual 200, 3) := dk_182 0 200 (dk_at dksX3_fetch_0 7 rfl rfl)
theorem dX3_fetch_10 : decode cX3_fetch 10 = .ok (.iconst 2, 1) := dk_5 (dk_at dksX3_fetch_0 10 rfl rfl)
theorem dX3_fetch_11 : decode cX3_fetch 11 = .ok (.invokevirtual 155, 3) := dk_182 0 155 (dk_at dksX3_fetch_0 11 rfl rfl)
theorem dX3_fetch_14 : decode cX3_fetch 14 = .ok (.ireturn, 1) := dk_172 (dk_at dksX3_fetch_0 14 rfl rfl)
abbrev cX3_fetches : ByteArray := prog_14_method_42_code
def yX3_fetches : MethodName := ⟨RX3, "fetches", "(I)I"⟩
def dkwX3_fetches_5 : List UInt8 := [182, 0, 99, 79, 42, 180, 0, 7, 7, 92, 46, 4, 96, 79, 42, 29, 182, 0, 133, 172]
abbrev dktX3_fetches_5 : List UInt8 := dkwX3_fetches_5 ++ []
def dkwX3_fetches_4 : List UInt8 := [16, 6, 42, 180, 0, 7, 3, 46, 182, 0, 130, 172, 42, 180, 0, 7, 16, 63, 29, 96, 42, 29]
abbrev dktX3_fetches_4 : List UInt8 := dkwX3_fetches_4 ++ dktX3_fetches_5
def dkwX3_fetches_3 : List UInt8 := [42, 29, 28, 182, 0, 93, 162, 0, 6, 21, 4, 62, 132, 4, 1, 167, 255, 209, 29, 2, 160, 0, 16, 42]
abbrev dktX3_fetches_3 : List UInt8 := dkwX3_fetches_3 ++ dktX3_fetches_4
def dkwX3_fetches_2 : List UInt8 := [162, 0, 42, 42, 21, 4, 182, 0, 102, 153, 0, 27, 29, 2, 159, 0, 19, 42, 21, 4, 28, 182, 0, 93]
abbrev dktX3_fetches_2 : List UInt8 := dkwX3_fetches_2 ++ dktX3_fetches_3
def dkwX3_fetches_1 : List UInt8 := [160, 0, 10, 42, 8, 27, 182, 0, 130, 172, 2, 62, 3, 54, 4, 21, 4, 42, 180, 0, 7, 3, 46]
abbrev dktX3_fetches_1 : List UInt8 := dkwX3_fetches_1 ++ dktX3_fetches_2
def dkwX3_fetches_0 : List UInt8 := [27, 3, 5, 184, 0, 78, 154, 0, 5, 2, 172, 42, 180, 0, 7, 16, 6, 27, 96, 46, 61, 28, 2]
abbrev dktX3_fetches_0 : List UInt8 := dkwX3_fetches_0 ++ dktX3_fetches_1
theorem dksX3_fetches_0 : cX3_fetches.data.toList.drop 0 = dktX3_fetches_0 := by decide +kernel
theorem dksX3_fetches_1 : cX3_fetches.data.toList.drop 23 = dktX3_fetches_1 := dk_seg dksX3_fetches_0 23 rfl rfl
theorem dksX3_fetches_2 : cX3_fetches.data.toList.drop 46 = dktX3_fetches_2 := dk_seg dksX3_fetches_1 23 rfl rfl
theorem dksX3_fetches_3 : cX3_fetches.data.toList.drop 70 = dktX3_fetches_3 := dk_seg dksX3_fetches_2 24 rfl rfl
theorem dksX3_fetches_4 : cX3_fetches.data.toList.drop 94 = dktX3_fetches_4 := dk_seg dksX3_fetches_3 24 rfl rfl
theorem dksX3_fetches_5 : cX3_fetches.data.toList.drop 116 = dktX3_fetches_5 := dk_seg dksX3_fetches_4 22 rfl rfl
theorem dX3_fetches_0 : decode cX3_fetches 0 = .ok (.iload_n 1, 1) := dk_27 (dk_at dksX3_fetches_0 0 rfl rfl)
theorem dX3_fetches_1 : decode cX3_fetches 1 = .ok (.iconst 0, 1) := dk_3 (dk_at dksX3_fetches_0 1 rfl rfl)
theorem dX3_fetches_2 : decode cX3_fetches 2 = .ok (.iconst 2, 1) := dk_5 (dk_at dksX3_fetches_0 2 rfl rfl)
theorem dX3_fetches_3 : decode cX3_fetches 3 = .ok (.invokestatic 78, 3) := dk_184 0 78 (dk_at dksX3_fetches_0 3 rfl rfl)
theorem dX3_fetches_6 : decode cX3_fetches 6 = .ok (.ifCond .ne 5, 3) := dk_154 0 5 (dk_at dksX3_fetches_0 6 rfl rfl)
theorem dX3_fetches_9 : decode cX3_fetches 9 = .ok (.iconst (-1), 1) := dk_2 (dk_at dksX3_fetches_0 9 rfl rfl)
theorem dX3_fetches_10 : decode cX3_fetches 10 = .ok (.ireturn, 1) := dk_172 (dk_at dksX3_fetches_0 10 rfl rfl)
theorem dX3_fetches_11 : decode cX3_fetches 11 = .ok (.aload_n 0, 1) := dk_42 (dk_at dksX3_fetches_0 11 rfl rfl)
theorem dX3_fetches_12 : decode cX3_fetches 12 = .ok (.getfield 7, 3) := dk_180 0 7 (dk_at dksX3_fetches_0 12 rfl rfl)
theorem dX3_fetches_15 : decode cX3_fetches 15 = .ok (.bipush 6, 2) := dk_16 6 (dk_at dksX3_fetches_0 15 rfl rfl)
theorem dX3_fetches_17 : decode cX3_fetches 17 = .ok (.iload_n 1, 1) := dk_27 (dk_at dksX3_fetches_0 17 rfl rfl)
theorem dX3_fetches_18 : decode cX3_fetches 18 = .ok (.iadd, 1) := dk_96 (dk_at dksX3_fetches_0 18 rfl rfl)
theorem dX3_fetches_19 : decode cX3_fetches 19 = .ok (.iaload, 1) := dk_46 (dk_at dksX3_fetches_0 19 rfl rfl)
theorem dX3_fetches_20 : decode cX3_fetches 20 = .ok (.istore_n 2, 1) := dk_61 (dk_at dksX3_fetches_0 20 rfl rfl)
theorem dX3_fetches_21 : decode cX3_fetches 21 = .ok (.iload_n 2, 1) := dk_28 (dk_at dksX3_fetches_0 21 rfl rfl)
theorem dX3_fetches_22 : decode cX3_fetches 22 = .ok (.iconst (-1), 1) := dk_2 (dk_at dksX3_fetches_0 22 rfl rfl)
theorem dX3_fetches_23 : decode cX3_fetches 23 = .ok (.if_icmp .ne 10, 3) := dk_160 0 10 (dk_at dksX3_fetches_1 0 rfl rfl)
theorem dX3_fetches_26 : decode cX3_fetches 26 = .ok (.aload_n 0, 1) := dk_42 (dk_at dksX3_fetches_1 3 rfl rfl)
theorem dX3_fetches_27 : decode cX3_fetches 27 = .ok (.iconst 5, 1) := dk_8 (dk_at dksX3_fetches_1 4 rfl rfl)
theorem dX3_fetches_28 : decode cX3_fetches 28 = .ok (.iload_n 1, 1) := dk_27 (dk_at dksX3_fetches_1 5 rfl rfl)
theorem dX3_fetches_29 : decode cX3_fetches 29 = .ok (.invokevirtual 130, 3) := dk_182 0 130 (dk_at dksX3_fetches_1 6 rfl rfl)
theorem dX3_fetches_32 : decode cX3_fetches 32 = .ok (.ireturn, 1) := dk_172 (dk_at dksX3_fetches_1 9 rfl rfl)
theorem dX3_fetches_33 : decode cX3_fetches 33 = .ok (.iconst (-1), 1) := dk_2 (dk_at dksX3_fetches_1 10 rfl rfl)
theorem dX3_fetches_34 : decode cX3_fetches 34 = .ok (.istore_n 3, 1) := dk_62 (dk_at dksX3_fetches_1 11 rfl rfl)
theorem dX3_fetches_35 : decode cX3_fetches 35 = .ok (.iconst 0, 1) := dk_3 (dk_at dksX3_fetches_1 12 rfl rfl)
theorem dX3_fetches_36 : decode cX3_fetches 36 = .ok (.istore 4, 2) := dk_54 4 (dk_at dksX3_fetches_1 13 rfl rfl)
theorem dX3_fetches_38 : decode cX3_fetches 38 = .ok (.iload 4, 2) := dk_21 4 (dk_at dksX3_fetches_1 15 rfl rfl)
theorem dX3_fetches_40 : decode cX3_fetches 40 = .ok (.aload_n 0, 1) := dk_42 (dk_at dksX3_fetches_1 17 rfl rfl)
theorem dX3_fetches_41 : decode cX3_fetches 41 = .ok (.getfield 7, 3) := dk_180 0 7 (dk_at dksX3_fetches_1 18 rfl rfl)
theorem dX3_fetches_44 : decode cX3_fetches 44 = .ok (.iconst 0, 1) := dk_3 (dk_at dksX3_fetches_1 21 rfl rfl)
theorem dX3_fetches_45 : decode cX3_fetches 45 = .ok (.iaload, 1) := dk_46 (dk_at dksX3_fetches_1 22 rfl rfl)
theorem dX3_fetches_46 : decode cX3_fetches 46 = .ok (.if_icmp .ge 42, 3) := dk_162 0 42 (dk_at dksX3_fetches_2 0 rfl rfl)
theorem dX3_fetches_49 : decode cX3_fetches 49 = .ok (.aload_n 0, 1) := dk_42 (dk_at dksX3_fetches_2 3 rfl rfl)
theorem dX3_fetches_50 : decode cX3_fetches 50 = .ok (.iload 4, 2) := dk_21 4 (dk_at dksX3_fetches_2 4 rfl rfl)
theorem dX3_fetches_52 : decode cX3_fetches 52 = .ok (.invokevirtual 102, 3) := dk_182 0 102 (dk_at dksX3_fetches_2 6 rfl rfl)
theorem dX3_fetches_55 : decode cX3_fetches 55 = .ok (.ifCond .eq 27, 3) := dk_153 0 27 (dk_at dksX3_fetches_2 9 rfl rfl)
theorem dX3_fetches_58 : decode cX3_fetches 58 = .ok (.iload_n 3, 1) := dk_29 (dk_at dksX3_fetches_2 12 rfl rfl)
theorem dX3_fetches_59 : decode cX3_fetches 59 = .ok (.iconst (-1), 1) := dk_2 (dk_at dksX3_fetches_2 13 rfl rfl)
theorem dX3_fetches_60 : decode cX3_fetches 60 = .ok (.if_icmp .eq 19, 3) := dk_159 0 19 (dk_at dksX3_fetches_2 14 rfl rfl)
theorem dX3_fetches_63 : decode cX3_fetches 63 = .ok (.aload_n 0, 1) := dk_42 (dk_at dksX3_fetches_2 17 rfl rfl)
theorem dX3_fetches_64 : decode cX3_fetches 64 = .ok (.iload 4, 2) := dk_21 4 (dk_at dksX3_fetches_2 18 rfl rfl)
theorem dX3_fetches_66 : decode cX3_fetches 66 = .ok (.iload_n 2, 1) := dk_28 (dk_at dksX3_fetches_2 20 rfl rfl)
theorem dX3_fetches_67 : decode cX3_fetches 67 = .ok (.invokevirtual 93, 3) := dk_182 0 93 (dk_at dksX3_fetches_2 21 rfl rfl)
theorem dX3_fetches_70 : decode cX3_fetches 70 = .ok (.aload_n 0, 1) := dk_42 (dk_at dksX3_fetches_3 0 rfl rfl)
theorem dX3_fetches_71 : decode cX3_fetches 71 = .ok (.iload_n 3, 1) := dk_29 (dk_at dksX3_fetches_3 1 rfl rfl)
theorem dX3_fetches_72 : decode cX3_fetches 72 = .ok (.iload_n 2, 1) := dk_28 (dk_at dksX3_fetches_3 2 rfl rfl)
theorem dX3_fetches_73 : decode cX3_fetches 73 = .ok (.invokevirtual 93, 3) := dk_182 0 93 (dk_at dksX3_fetches_3 3 rfl rfl)
theorem dX3_fetches_76 : decode cX3_fetches 76 = .ok (.if_icmp .ge 6, 3) := dk_162 0 6 (dk_at dksX3_fetches_3 6 rfl rfl)
theorem dX3_fetches_79 : decode cX3_fetches 79 = .ok (.iload 4, 2) := dk_21 4 (dk_at dksX3_fetches_3 9 rfl rfl)
theorem dX3_fetches_81 : decode cX3_fetches 81 = .ok (.istore_n 3, 1) := dk_62 (dk_at dksX3_fetches_3 11 rfl rfl)
theorem dX3_fetches_82 : decode cX3_fetches 82 = .ok (.iinc 4 1, 3) := dk_132 4 1 (dk_at dksX3_fetches_3 12 rfl rfl)
theorem dX3_fetches_85 : decode cX3_fetches 85 = .ok (.goto (-47), 3) := dk_167 255 209 (dk_at dksX3_fetches_3 15 rfl rfl)
theorem dX3_fetches_88 : decode cX3_fetches 88 = .ok (.iload_n 3, 1) := dk_29 (dk_at dksX3_fetches_3 18 rfl rfl)
theorem dX3_fetches_89 : decode cX3_fetches 89 = .ok (.iconst (-1), 1) := dk_2 (dk_at dksX3_fetches_3 19 rfl rfl)
theorem dX3_fetches_90 : decode cX3_fetches 90 = .ok (.if_icmp .ne 16, 3) := dk_160 0 16 (dk_at dksX3_fetches_3 20 rfl rfl)
theorem dX3_fetches_93 : decode cX3_fetches 93 = .ok (.aload_n 0, 1) := dk_42 (dk_at dksX3_fetches_3 23 rfl rfl)
theorem dX3_fetches_94 : decode cX3_fetches 94 = .ok (.bipush 6, 2) := dk_16 6 (dk_at dksX3_fetches_4 0 rfl rfl)
theorem dX3_fetches_96 : decode cX3_fetches 96 = .ok (.aload_n 0, 1) := dk_42 (dk_at dksX3_fetches_4 2 rfl rfl)
theorem dX3_fetches_97 : decode cX3_fetches 97 = .ok (.getfield 7, 3) := dk_180 0 7 (dk_at dksX3_fetches_4 3 rfl rfl)
theorem dX3_fetches_100 : decode cX3_fetches 100 = .ok (.iconst 0, 1) := dk_3 (dk_at dksX3_fetches_4 6 rfl rfl)
theorem dX3_fetches_101 : decode cX3_fetches 101 = .ok (.iaload, 1) := dk_46 (dk_at dksX3_fetches_4 7 rfl rfl)
theorem dX3_fetches_102 : decode cX3_fetches 102 = .ok (.invokevirtual 130, 3) := dk_182 0 130 (dk_at dksX3_fetches_4 8 rfl rfl)
theorem dX3_fetches_105 : decode cX3_fetches 105 = .ok (.ireturn, 1) := dk_172 (dk_at dksX3_fetches_4 11 rfl rfl)
theorem dX3_fetches_106 : decode cX3_fetches 106 = .ok (.aload_n 0, 1) := dk_42 (dk_at dksX3_fetches_4 12 rfl rfl)
theorem dX3_fetches_107 : decode cX3_fetches 107 = .ok (.getfield 7, 3) := dk_180 0 7 (dk_at dksX3_fetches_4 13 rfl rfl)
theorem dX3_fetches_110 : decode cX3_fetches 110 = .ok (.bipush 63, 2) := dk_16 63 (dk_at dksX3_fetches_4 16 rfl rfl)
theorem dX3_fetches_112 : decode cX3_fetches 112 = .ok (.iload_n 3, 1) := dk_29 (dk_at dksX3_fetches_4 18 rfl rfl)
theorem dX3_fetches_113 : decode cX3_fetches 113 = .ok (.iadd, 1) := dk_96 (dk_at dksX3_fetches_4 19 rfl rfl)
theorem dX3_fetches_114 : decode cX3_fetches 114 = .ok (.aload_n 0, 1) := dk_42 (dk_at dksX3_fetches_4 20 rfl rfl)
theorem dX3_fetches_115 : decode cX3_fetches 115 = .ok (.iload_n 3, 1) := dk_29 (dk_at dksX3_fetches_4 21 rfl rfl)
theorem dX3_fetches_116 : decode cX3_fetches 116 = .ok (.invokevirtual 99, 3) := dk_182 0 99 (dk_at dksX3_fetches_5 0 rfl rfl)
theorem dX3_fetches_119 : decode cX3_fetches 119 = .ok (.iastore, 1) := dk_79 (dk_at dksX3_fetches_5 3 rfl rfl)
theorem dX3_fetches_120 : decode cX3_fetches 120 = .ok (.aload_n 0, 1) := dk_42 (dk_at dksX3_fetches_5 4 rfl rfl)
theorem dX3_fetches_121 : decode cX3_fetches 121 = .ok (.getfield 7, 3) := dk_180 0 7 (dk_at dksX3_fetches_5 5 rfl rfl)
theorem dX3_fetches_124 : decode cX3_fetches 124 = .ok (.iconst 4, 1) := dk_7 (dk_at dksX3_fetches_5 8 rfl rfl)
theorem dX3_fetches_125 : decode cX3_fetches 125 = .ok (.dup2, 1) := dk_92 (dk_at dksX3_fetches_5 9 rfl rfl)
theorem dX3_fetches_126 : decode cX3_fetches 126 = .ok (.iaload, 1) := dk_46 (dk_at dksX3_fetches_5 10 rfl rfl)
theorem dX3_fetches_127 : decode cX3_fetches 127 = .ok (.iconst 1, 1) := dk_4 (dk_at dksX3_fetches_5 11 rfl rfl)
theorem dX3_fetches_128 : decode cX3_fetches 128 = .ok (.iadd, 1) := dk_96 (dk_at dksX3_fetches_5 12 rfl rfl)
theorem dX3_fetches_129 : decode cX3_fetches 129 = .ok (.iastore, 1) := dk_79 (dk_at dksX3_fetches_5 13 rfl rfl)
theorem dX3_fetches_130 : decode cX3_fetches 130 = .ok (.aload_n 0, 1) := dk_42 (dk_at dksX3_fetches_5 14 rfl rfl)
theorem dX3_fetches_131 : decode cX3_fetches 131 = .ok (.iload_n 3, 1) := dk_29 (dk_at dksX3_fetches_5 15 rfl rfl)
theorem dX3_fetches_132 : decode cX3_fetches 132 = .ok (.invokevirtual 133, 3) := dk_182 0 133 (dk_at dksX3_fetches_5 16 rfl rfl)
theorem dX3_fetches_135 : decode cX3_fetches 135 = .ok (.ireturn, 1) := dk_172 (dk_at dksX3_fetches_5 19 rfl rfl)
abbrev cX3_dogAt : ByteArray := prog_14_method_66_code
def yX3_dogAt : MethodName := ⟨RX3, "dogAt", "(I)I"⟩
def dkwX3_dogAt_1 : List UInt8 := [158, 0, 7, 3, 167, 0, 12, 42, 180, 0, 7, 16, 6, 27, 96, 46, 172]
abbrev dktX3_dogAt_1 : List UInt8 := dkwX3_dogAt_1 ++ []
def dkwX3_dogAt_0 : List UInt8 := [42, 27, 3, 5, 184, 0, 78, 153, 0, 7, 3, 167, 0, 4, 4, 181, 0, 53, 42, 180, 0, 53]
abbrev dktX3_dogAt_0 : List UInt8 := dkwX3_dogAt_0 ++ dktX3_dogAt_1
theorem dksX3_dogAt_0 : cX3_dogAt.data.toList.drop 0 = dktX3_dogAt_0 := by decide +kernel
theorem dksX3_dogAt_1 : cX3_dogAt.data.toList.drop 22 = dktX3_dogAt_1 := dk_seg dksX3_dogAt_0 22 rfl rfl
theorem dX3_dogAt_0 : decode cX3_dogAt 0 = .ok (.aload_n 0, 1) := dk_42 (dk_at dksX3_dogAt_0 0 rfl rfl)
theorem dX3_dogAt_1 : decode cX3_dogAt 1 = .ok (.iload_n 1, 1) := dk_27 (dk_at dksX3_dogAt_0 1 rfl rfl)
theorem dX3_dogAt_2 : decode cX3_dogAt 2 = .ok (.iconst 0, 1) := dk_3 (dk_at dksX3_dogAt_0 2 rfl rfl)
theorem dX3_dogAt_3 : decode cX3_dogAt 3 = .ok (.iconst 2, 1) := dk_5 (dk_at dksX3_dogAt_0 3 rfl rfl)
theorem dX3_dogAt_4 : decode cX3_dogAt 4 = .ok (.invokestatic 78, 3) := dk_184 0 78 (dk_at dksX3_dogAt_0 4 rfl rfl)
theorem dX3_dogAt_7 : decode cX3_dogAt 7 = .ok (.ifCond .eq 7, 3) := dk_153 0 7 (dk_at dksX3_dogAt_0 7 rfl rfl)
theorem dX3_dogAt_10 : decode cX3_dogAt 10 = .ok (.iconst 0, 1) := dk_3 (dk_at dksX3_dogAt_0 10 rfl rfl)
theorem dX3_dogAt_11 : decode cX3_dogAt 11 = .ok (.goto 4, 3) := dk_167 0 4 (dk_at dksX3_dogAt_0 11 rfl rfl)
theorem dX3_dogAt_14 : decode cX3_dogAt 14 = .ok (.iconst 1, 1) := dk_4 (dk_at dksX3_dogAt_0 14 rfl rfl)
theorem dX3_dogAt_15 : decode cX3_dogAt 15 = .ok (.putfield 53, 3) := dk_181 0 53 (dk_at dksX3_dogAt_0 15 rfl rfl)
theorem dX3_dogAt_18 : decode cX3_dogAt 18 = .ok (.aload_n 0, 1) := dk_42 (dk_at dksX3_dogAt_0 18 rfl rfl)
theorem dX3_dogAt_19 : decode cX3_dogAt 19 = .ok (.getfield 53, 3) := dk_180 0 53 (dk_at dksX3_dogAt_0 19 rfl rfl)
theorem dX3_dogAt_22 : decode cX3_dogAt 22 = .ok (.ifCond .le 7, 3) := dk_158 0 7 (dk_at dksX3_dogAt_1 0 rfl rfl)
theorem dX3_dogAt_25 : decode cX3_dogAt 25 = .ok (.iconst 0, 1) := dk_3 (dk_at dksX3_dogAt_1 3 rfl rfl)
theorem dX3_dogAt_26 : decode cX3_dogAt 26 = .ok (.goto 12, 3) := dk_167 0 12 (dk_at dksX3_dogAt_1 4 rfl rfl)
theorem dX3_dogAt_29 : decode cX3_dogAt 29 = .ok (.aload_n 0, 1) := dk_42 (dk_at dksX3_dogAt_1 7 rfl rfl)
theorem dX3_dogAt_30 : decode cX3_dogAt 30 = .ok (.getfield 7, 3) := dk_180 0 7 (dk_at dksX3_dogAt_1 8 rfl rfl)
theorem dX3_dogAt_33 : decode cX3_dogAt 33 = .ok (.bipush 6, 2) := dk_16 6 (dk_at dksX3_dogAt_1 11 rfl rfl)
theorem dX3_dogAt_35 : decode cX3_dogAt 35 = .ok (.iload_n 1, 1) := dk_27 (dk_at dksX3_dogAt_1 13 rfl rfl)
theorem dX3_dogAt_36 : decode cX3_dogAt 36 = .ok (.iadd, 1) := dk_96 (dk_at dksX3_dogAt_1 14 rfl rfl)
theorem dX3_dogAt_37 : decode cX3_dogAt 37 = .ok (.iaload, 1) := dk_46 (dk_at dksX3_dogAt_1 15 rfl rfl)
theorem dX3_dogAt_38 : decode cX3_dogAt 38 = .ok (.ireturn, 1) := dk_172 (dk_at dksX3_dogAt_1 16 rfl rfl)
abbrev cX3_apart : ByteArray := prog_14_method_67_code
def yX3_apart : MethodName := ⟨RX3, "apart", "(II)I"⟩
def dkwX3_apart_2 : List UInt8 := [42, 180, 0, 7, 16, 87, 27, 96, 46, 28, 182, 0, 85, 172]
abbrev dktX3_apart_2 : List UInt8 := dkwX3_apart_2 ++ []
def dkwX3_apart_1 : List UInt8 := [181, 0, 53, 42, 180, 0, 53, 158, 0, 7, 3, 167, 0, 26, 42, 42, 180, 0, 7, 16, 81, 27, 96, 46]
abbrev dktX3_apart_1 : List UInt8 := dkwX3_apart_1 ++ dktX3_apart_2
def dkwX3_apart_0 : List UInt8 := [42, 42, 27, 182, 0, 142, 153, 0, 15, 42, 28, 182, 0, 142, 153, 0, 7, 3, 167, 0, 4, 4]
abbrev dktX3_apart_0 : List UInt8 := dkwX3_apart_0 ++ dktX3_apart_1
theorem dksX3_apart_0 : cX3_apart.data.toList.drop 0 = dktX3_apart_0 := by decide +kernel
theorem dksX3_apart_1 : cX3_apart.data.toList.drop 22 = dktX3_apart_1 := dk_seg dksX3_apart_0 22 rfl rfl
theorem dksX3_apart_2 : cX3_apart.data.toList.drop 46 = dktX3_apart_2 := dk_seg dksX3_apart_1 24 rfl rfl
theorem dX3_apart_0 : decode cX3_apart 0 = .ok (.aload_n 0, 1) := dk_42 (dk_at dksX3_apart_0 0 rfl rfl)
theorem dX3_apart_1 : decode cX3_apart 1 = .ok (.aload_n 0, 1) := dk_42 (dk_at dksX3_apart_0 1 rfl rfl)
theorem dX3_apart_2 : decode cX3_apart 2 = .ok (.iload_n 1, 1) := dk_27 (dk_at dksX3_apart_0 2 rfl rfl)
theorem dX3_apart_3 : decode cX3_apart 3 = .ok (.invokevirtual 142, 3) := dk_182 0 142 (dk_at dksX3_apart_0 3 rfl rfl)
theorem dX3_apart_6 : decode cX3_apart 6 = .ok (.ifCond .eq 15, 3) := dk_153 0 15 (dk_at dksX3_apart_0 6 rfl rfl)
theorem dX3_apart_9 : decode cX3_apart 9 = .ok (.aload_n 0, 1) := dk_42 (dk_at dksX3_apart_0 9 rfl rfl)
theorem dX3_apart_10 : decode cX3_apart 10 = .ok (.iload_n 2, 1) := dk_28 (dk_at dksX3_apart_0 10 rfl rfl)
theorem dX3_apart_11 : decode cX3_apart 11 = .ok (.invokevirtual 142, 3) := dk_182 0 142 (dk_at dksX3_apart_0 11 rfl rfl)
theorem dX3_apart_14 : decode cX3_apart 14 = .ok (.ifCond .eq 7, 3) := dk_153 0 7 (dk_at dksX3_apart_0 14 rfl rfl)
theorem dX3_apart_17 : decode cX3_apart 17 = .ok (.iconst 0, 1) := dk_3 (dk_at dksX3_apart_0 17 rfl rfl)
theorem dX3_apart_18 : decode cX3_apart 18 = .ok (.goto 4, 3) := dk_167 0 4 (dk_at dksX3_apart_0 18 rfl rfl)
theorem dX3_apart_21 : decode cX3_apart 21 = .ok (.iconst 1, 1) := dk_4 (dk_at dksX3_apart_0 21 rfl rfl)
theorem dX3_apart_22 : decode cX3_apart 22 = .ok (.putfield 53, 3) := dk_181 0 53 (dk_at dksX3_apart_1 0 rfl rfl)
theorem dX3_apart_25 : decode cX3_apart 25 = .ok (.aload_n 0, 1) := dk_42 (dk_at dksX3_apart_1 3 rfl rfl)
theorem dX3_apart_26 : decode cX3_apart 26 = .ok (.getfield 53, 3) := dk_180 0 53 (dk_at dksX3_apart_1 4 rfl rfl)
theorem dX3_apart_29 : decode cX3_apart 29 = .ok (.ifCond .le 7, 3) := dk_158 0 7 (dk_at dksX3_apart_1 7 rfl rfl)
theorem dX3_apart_32 : decode cX3_apart 32 = .ok (.iconst 0, 1) := dk_3 (dk_at dksX3_apart_1 10 rfl rfl)
theorem dX3_apart_33 : decode cX3_apart 33 = .ok (.goto 26, 3) := dk_167 0 26 (dk_at dksX3_apart_1 11 rfl rfl)
theorem dX3_apart_36 : decode cX3_apart 36 = .ok (.aload_n 0, 1) := dk_42 (dk_at dksX3_apart_1 14 rfl rfl)
theorem dX3_apart_37 : decode cX3_apart 37 = .ok (.aload_n 0, 1) := dk_42 (dk_at dksX3_apart_1 15 rfl rfl)
theorem dX3_apart_38 : decode cX3_apart 38 = .ok (.getfield 7, 3) := dk_180 0 7 (dk_at dksX3_apart_1 16 rfl rfl)
theorem dX3_apart_41 : decode cX3_apart 41 = .ok (.bipush 81, 2) := dk_16 81 (dk_at dksX3_apart_1 19 rfl rfl)
theorem dX3_apart_43 : decode cX3_apart 43 = .ok (.iload_n 1, 1) := dk_27 (dk_at dksX3_apart_1 21 rfl rfl)
theorem dX3_apart_44 : decode cX3_apart 44 = .ok (.iadd, 1) := dk_96 (dk_at dksX3_apart_1 22 rfl rfl)
theorem dX3_apart_45 : decode cX3_apart 45 = .ok (.iaload, 1) := dk_46 (dk_at dksX3_apart_1 23 rfl rfl)
theorem dX3_apart_46 : decode cX3_apart 46 = .ok (.aload_n 0, 1) := dk_42 (dk_at dksX3_apart_2 0 rfl rfl)
theorem dX3_apart_47 : decode cX3_apart 47 = .ok (.getfield 7, 3) := dk_180 0 7 (dk_at dksX3_apart_2 1 rfl rfl)
theorem dX3_apart_50 : decode cX3_apart 50 = .ok (.bipush 87, 2) := dk_16 87 (dk_at dksX3_apart_2 4 rfl rfl)
theorem dX3_apart_52 : decode cX3_apart 52 = .ok (.iload_n 1, 1) := dk_27 (dk_at dksX3_apart_2 6 rfl rfl)
theorem dX3_apart_53 : decode cX3_apart 53 = .ok (.iadd, 1) := dk_96 (dk_at dksX3_apart_2 7 rfl rfl)
theorem dX3_apart_54 : decode cX3_apart 54 = .ok (.iaload, 1) := dk_46 (dk_at dksX3_apart_2 8 rfl rfl)
theorem dX3_apart_55 : decode cX3_apart 55 = .ok (.iload_n 2, 1) := dk_28 (dk_at dksX3_apart_2 9 rfl rfl)
theorem dX3_apart_56 : decode cX3_apart 56 = .ok (.invokevirtual 85, 3) := dk_182 0 85 (dk_at dksX3_apart_2 10 rfl rfl)
theorem dX3_apart_59 : decode cX3_apart 59 = .ok (.ireturn, 1) := dk_172 (dk_at dksX3_apart_2 13 rfl rfl)
abbrev cX3_ranked : ByteArray := prog_14_method_69_code
def yX3_ranked : MethodName := ⟨RX3, "ranked", "(I)I"⟩
def dkwX3_ranked_3 : List UInt8 := [132, 2, 1, 167, 255, 190, 42, 4, 182, 0, 69, 172]
abbrev dktX3_ranked_3 : List UInt8 := dkwX3_ranked_3 ++ []
def dkwX3_ranked_2 : List UInt8 := [153, 0, 7, 4, 167, 0, 4, 3, 96, 62, 132, 4, 1, 167, 255, 218, 29, 27, 160, 0, 5, 28, 172]
abbrev dktX3_ranked_2 : List UInt8 := dkwX3_ranked_2 ++ dktX3_ranked_3
def dkwX3_ranked_1 : List UInt8 := [42, 180, 0, 7, 4, 46, 162, 0, 33, 29, 21, 4, 28, 159, 0, 17, 42, 21, 4, 28, 182, 0, 203]
abbrev dktX3_ranked_1 : List UInt8 := dkwX3_ranked_1 ++ dktX3_ranked_2
def dkwX3_ranked_0 : List UInt8 := [42, 3, 181, 0, 53, 3, 61, 28, 42, 180, 0, 7, 4, 46, 162, 0, 62, 3, 62, 3, 54, 4, 21, 4]
abbrev dktX3_ranked_0 : List UInt8 := dkwX3_ranked_0 ++ dktX3_ranked_1
theorem dksX3_ranked_0 : cX3_ranked.data.toList.drop 0 = dktX3_ranked_0 := by decide +kernel
theorem dksX3_ranked_1 : cX3_ranked.data.toList.drop 24 = dktX3_ranked_1 := dk_seg dksX3_ranked_0 24 rfl rfl
theorem dksX3_ranked_2 : cX3_ranked.data.toList.drop 47 = dktX3_ranked_2 := dk_seg dksX3_ranked_1 23 rfl rfl
theorem dksX3_ranked_3 : cX3_ranked.data.toList.drop 70 = dktX3_ranked_3 := dk_seg dksX3_ranked_2 23 rfl rfl
theorem dX3_ranked_0 : decode cX3_ranked 0 = .ok (.aload_n 0, 1) := dk_42 (dk_at dksX3_ranked_0 0 rfl rfl)
theorem dX3_ranked_1 : decode cX3_ranked 1 = .ok (.iconst 0, 1) := dk_3 (dk_at dksX3_ranked_0 1 rfl rfl)
theorem dX3_ranked_2 : decode cX3_ranked 2 = .ok (.putfield 53, 3) := dk_181 0 53 (dk_at dksX3_ranked_0 2 rfl rfl)
theorem dX3_ranked_5 : decode cX3_ranked 5 = .ok (.iconst 0, 1) := dk_3 (dk_at dksX3_ranked_0 5 rfl rfl)
theorem dX3_ranked_6 : decode cX3_ranked 6 = .ok (.istore_n 2, 1) := dk_61 (dk_at dksX3_ranked_0 6 rfl rfl)
theorem dX3_ranked_7 : decode cX3_ranked 7 = .ok (.iload_n 2, 1) := dk_28 (dk_at dksX3_ranked_0 7 rfl rfl)
theorem dX3_ranked_8 : decode cX3_ranked 8 = .ok (.aload_n 0, 1) := dk_42 (dk_at dksX3_ranked_0 8 rfl rfl)
theorem dX3_ranked_9 : decode cX3_ranked 9 = .ok (.getfield 7, 3) := dk_180 0 7 (dk_at dksX3_ranked_0 9 rfl rfl)
theorem dX3_ranked_12 : decode cX3_ranked 12 = .ok (.iconst 1, 1) := dk_4 (dk_at dksX3_ranked_0 12 rfl rfl)
theorem dX3_ranked_13 : decode cX3_ranked 13 = .ok (.iaload, 1) := dk_46 (dk_at dksX3_ranked_0 13 rfl rfl)
theorem dX3_ranked_14 : decode cX3_ranked 14 = .ok (.if_icmp .ge 62, 3) := dk_162 0 62 (dk_at dksX3_ranked_0 14 rfl rfl)
theorem dX3_ranked_17 : decode cX3_ranked 17 = .ok (.iconst 0, 1) := dk_3 (dk_at dksX3_ranked_0 17 rfl rfl)
theorem dX3_ranked_18 : decode cX3_ranked 18 = .ok (.istore_n 3, 1) := dk_62 (dk_at dksX3_ranked_0 18 rfl rfl)
theorem dX3_ranked_19 : decode cX3_ranked 19 = .ok (.iconst 0, 1) := dk_3 (dk_at dksX3_ranked_0 19 rfl rfl)
theorem dX3_ranked_20 : decode cX3_ranked 20 = .ok (.istore 4, 2) := dk_54 4 (dk_at dksX3_ranked_0 20 rfl rfl)
theorem dX3_ranked_22 : decode cX3_ranked 22 = .ok (.iload 4, 2) := dk_21 4 (dk_at dksX3_ranked_0 22 rfl rfl)
theorem dX3_ranked_24 : decode cX3_ranked 24 = .ok (.aload_n 0, 1) := dk_42 (dk_at dksX3_ranked_1 0 rfl rfl)
theorem dX3_ranked_25 : decode cX3_ranked 25 = .ok (.getfield 7, 3) := dk_180 0 7 (dk_at dksX3_ranked_1 1 rfl rfl)
theorem dX3_ranked_28 : decode cX3_ranked 28 = .ok (.iconst 1, 1) := dk_4 (dk_at dksX3_ranked_1 4 rfl rfl)
theorem dX3_ranked_29 : decode cX3_ranked 29 = .ok (.iaload, 1) := dk_46 (dk_at dksX3_ranked_1 5 rfl rfl)
theorem dX3_ranked_30 : decode cX3_ranked 30 = .ok (.if_icmp .ge 33, 3) := dk_162 0 33 (dk_at dksX3_ranked_1 6 rfl rfl)
theorem dX3_ranked_33 : decode cX3_ranked 33 = .ok (.iload_n 3, 1) := dk_29 (dk_at dksX3_ranked_1 9 rfl rfl)
theorem dX3_ranked_34 : decode cX3_ranked 34 = .ok (.iload 4, 2) := dk_21 4 (dk_at dksX3_ranked_1 10 rfl rfl)
theorem dX3_ranked_36 : decode cX3_ranked 36 = .ok (.iload_n 2, 1) := dk_28 (dk_at dksX3_ranked_1 12 rfl rfl)
theorem dX3_ranked_37 : decode cX3_ranked 37 = .ok (.if_icmp .eq 17, 3) := dk_159 0 17 (dk_at dksX3_ranked_1 13 rfl rfl)
theorem dX3_ranked_40 : decode cX3_ranked 40 = .ok (.aload_n 0, 1) := dk_42 (dk_at dksX3_ranked_1 16 rfl rfl)
theorem dX3_ranked_41 : decode cX3_ranked 41 = .ok (.iload 4, 2) := dk_21 4 (dk_at dksX3_ranked_1 17 rfl rfl)
theorem dX3_ranked_43 : decode cX3_ranked 43 = .ok (.iload_n 2, 1) := dk_28 (dk_at dksX3_ranked_1 19 rfl rfl)
theorem dX3_ranked_44 : decode cX3_ranked 44 = .ok (.invokevirtual 203, 3) := dk_182 0 203 (dk_at dksX3_ranked_1 20 rfl rfl)
theorem dX3_ranked_47 : decode cX3_ranked 47 = .ok (.ifCond .eq 7, 3) := dk_153 0 7 (dk_at dksX3_ranked_2 0 rfl rfl)
theorem dX3_ranked_50 : decode cX3_ranked 50 = .ok (.iconst 1, 1) := dk_4 (dk_at dksX3_ranked_2 3 rfl rfl)
theorem dX3_ranked_51 : decode cX3_ranked 51 = .ok (.goto 4, 3) := dk_167 0 4 (dk_at dksX3_ranked_2 4 rfl rfl)
theorem dX3_ranked_54 : decode cX3_ranked 54 = .ok (.iconst 0, 1) := dk_3 (dk_at dksX3_ranked_2 7 rfl rfl)
theorem dX3_ranked_55 : decode cX3_ranked 55 = .ok (.iadd, 1) := dk_96 (dk_at dksX3_ranked_2 8 rfl rfl)
theorem dX3_ranked_56 : decode cX3_ranked 56 = .ok (.istore_n 3, 1) := dk_62 (dk_at dksX3_ranked_2 9 rfl rfl)
theorem dX3_ranked_57 : decode cX3_ranked 57 = .ok (.iinc 4 1, 3) := dk_132 4 1 (dk_at dksX3_ranked_2 10 rfl rfl)
theorem dX3_ranked_60 : decode cX3_ranked 60 = .ok (.goto (-38), 3) := dk_167 255 218 (dk_at dksX3_ranked_2 13 rfl rfl)
theorem dX3_ranked_63 : decode cX3_ranked 63 = .ok (.iload_n 3, 1) := dk_29 (dk_at dksX3_ranked_2 16 rfl rfl)
theorem dX3_ranked_64 : decode cX3_ranked 64 = .ok (.iload_n 1, 1) := dk_27 (dk_at dksX3_ranked_2 17 rfl rfl)
theorem dX3_ranked_65 : decode cX3_ranked 65 = .ok (.if_icmp .ne 5, 3) := dk_160 0 5 (dk_at dksX3_ranked_2 18 rfl rfl)
theorem dX3_ranked_68 : decode cX3_ranked 68 = .ok (.iload_n 2, 1) := dk_28 (dk_at dksX3_ranked_2 21 rfl rfl)
theorem dX3_ranked_69 : decode cX3_ranked 69 = .ok (.ireturn, 1) := dk_172 (dk_at dksX3_ranked_2 22 rfl rfl)
theorem dX3_ranked_70 : decode cX3_ranked 70 = .ok (.iinc 2 1, 3) := dk_132 2 1 (dk_at dksX3_ranked_3 0 rfl rfl)
theorem dX3_ranked_73 : decode cX3_ranked 73 = .ok (.goto (-66), 3) := dk_167 255 190 (dk_at dksX3_ranked_3 3 rfl rfl)
theorem dX3_ranked_76 : decode cX3_ranked 76 = .ok (.aload_n 0, 1) := dk_42 (dk_at dksX3_ranked_3 6 rfl rfl)
theorem dX3_ranked_77 : decode cX3_ranked 77 = .ok (.iconst 1, 1) := dk_4 (dk_at dksX3_ranked_3 7 rfl rfl)
theorem dX3_ranked_78 : decode cX3_ranked 78 = .ok (.invokevirtual 69, 3) := dk_182 0 69 (dk_at dksX3_ranked_3 8 rfl rfl)
theorem dX3_ranked_81 : decode cX3_ranked 81 = .ok (.ireturn, 1) := dk_172 (dk_at dksX3_ranked_3 11 rfl rfl)
abbrev cX3_isAhead : ByteArray := prog_14_method_68_code
def yX3_isAhead : MethodName := ⟨RX3, "isAhead", "(II)Z"⟩
def dkwX3_isAhead_2 : List UInt8 := [182, 0, 113, 42, 28, 182, 0, 113, 160, 0, 12, 27, 28, 162, 0, 7, 4, 167, 0, 4, 3, 172]
abbrev dktX3_isAhead_2 : List UInt8 := dkwX3_isAhead_2 ++ []
def dkwX3_isAhead_1 : List UInt8 := [164, 0, 7, 4, 167, 0, 4, 3, 172, 42, 27, 182, 0, 113, 42, 28, 182, 0, 113, 161, 0, 21, 42, 27]
abbrev dktX3_isAhead_1 : List UInt8 := dkwX3_isAhead_1 ++ dktX3_isAhead_2
def dkwX3_isAhead_0 : List UInt8 := [42, 27, 182, 0, 106, 42, 28, 182, 0, 106, 159, 0, 22, 42, 27, 182, 0, 106, 42, 28, 182, 0, 106]
abbrev dktX3_isAhead_0 : List UInt8 := dkwX3_isAhead_0 ++ dktX3_isAhead_1
theorem dksX3_isAhead_0 : cX3_isAhead.data.toList.drop 0 = dktX3_isAhead_0 := by decide +kernel
theorem dksX3_isAhead_1 : cX3_isAhead.data.toList.drop 23 = dktX3_isAhead_1 := dk_seg dksX3_isAhead_0 23 rfl rfl
theorem dksX3_isAhead_2 : cX3_isAhead.data.toList.drop 47 = dktX3_isAhead_2 := dk_seg dksX3_isAhead_1 24 rfl rfl
theorem dX3_isAhead_0 : decode cX3_isAhead 0 = .ok (.aload_n 0, 1) := dk_42 (dk_at dksX3_isAhead_0 0 rfl rfl)
theorem dX3_isAhead_1 : decode cX3_isAhead 1 = .ok (.iload_n 1, 1) := dk_27 (dk_at dksX3_isAhead_0 1 rfl rfl)
theorem dX3_isAhead_2 : decode cX3_isAhead 2 = .ok (.invokevirtual 106, 3) := dk_182 0 106 (dk_at dksX3_isAhead_0 2 rfl rfl)
theorem dX3_isAhead_5 : decode cX3_isAhead 5 = .ok (.aload_n 0, 1) := dk_42 (dk_at dksX3_isAhead_0 5 rfl rfl)
theorem dX3_isAhead_6 : decode cX3_isAhead 6 = .ok (.iload_n 2, 1) := dk_28 (dk_at dksX3_isAhead_0 6 rfl rfl)
theorem dX3_isAhead_7 : decode cX3_isAhead 7 = .ok (.invokevirtual 106, 3) := dk_182 0 106 (dk_at dksX3_isAhead_0 7 rfl rfl)
theorem dX3_isAhead_10 : decode cX3_isAhead 10 = .ok (.if_icmp .eq 22, 3) := dk_159 0 22 (dk_at dksX3_isAhead_0 10 rfl rfl)
theorem dX3_isAhead_13 : decode cX3_isAhead 13 = .ok (.aload_n 0, 1) := dk_42 (dk_at dksX3_isAhead_0 13 rfl rfl)
theorem dX3_isAhead_14 : decode cX3_isAhead 14 = .ok (.iload_n 1, 1) := dk_27 (dk_at dksX3_isAhead_0 14 rfl rfl)
theorem dX3_isAhead_15 : decode cX3_isAhead 15 = .ok (.invokevirtual 106, 3) := dk_182 0 106 (dk_at dksX3_isAhead_0 15 rfl rfl)
theorem dX3_isAhead_18 : decode cX3_isAhead 18 = .ok (.aload_n 0, 1) := dk_42 (dk_at dksX3_isAhead_0 18 rfl rfl)
theorem dX3_isAhead_19 : decode cX3_isAhead 19 = .ok (.iload_n 2, 1) := dk_28 (dk_at dksX3_isAhead_0 19 rfl rfl)
theorem dX3_isAhead_20 : decode cX3_isAhead 20 = .ok (.invokevirtual 106, 3) := dk_182 0 106 (dk_at dksX3_isAhead_0 20 rfl rfl)
theorem dX3_isAhead_23 : decode cX3_isAhead 23 = .ok (.if_icmp .le 7, 3) := dk_164 0 7 (dk_at dksX3_isAhead_1 0 rfl rfl)
theorem dX3_isAhead_26 : decode cX3_isAhead 26 = .ok (.iconst 1, 1) := dk_4 (dk_at dksX3_isAhead_1 3 rfl rfl)
theorem dX3_isAhead_27 : decode cX3_isAhead 27 = .ok (.goto 4, 3) := dk_167 0 4 (dk_at dksX3_isAhead_1 4 rfl rfl)
theorem dX3_isAhead_30 : decode cX3_isAhead 30 = .ok (.iconst 0, 1) := dk_3 (dk_at dksX3_isAhead_1 7 rfl rfl)
theorem dX3_isAhead_31 : decode cX3_isAhead 31 = .ok (.ireturn, 1) := dk_172 (dk_at dksX3_isAhead_1 8 rfl rfl)
theorem dX3_isAhead_32 : decode cX3_isAhead 32 = .ok (.aload_n 0, 1) := dk_42 (dk_at dksX3_isAhead_1 9 rfl rfl)
theorem dX3_isAhead_33 : decode cX3_isAhead 33 = .ok (.iload_n 1, 1) := dk_27 (dk_at dksX3_isAhead_1 10 rfl rfl)
theorem dX3_isAhead_34 : decode cX3_isAhead 34 = .ok (.invokevirtual 113, 3) := dk_182 0 113 (dk_at dksX3_isAhead_1 11 rfl rfl)
theorem dX3_isAhead_37 : decode cX3_isAhead 37 = .ok (.aload_n 0, 1) := dk_42 (dk_at dksX3_isAhead_1 14 rfl rfl)
theorem dX3_isAhead_38 : decode cX3_isAhead 38 = .ok (.iload_n 2, 1) := dk_28 (dk_at dksX3_isAhead_1 15 rfl rfl)
theorem dX3_isAhead_39 : decode cX3_isAhead 39 = .ok (.invokevirtual 113, 3) := dk_182 0 113 (dk_at dksX3_isAhead_1 16 rfl rfl)
theorem dX3_isAhead_42 : decode cX3_isAhead 42 = .ok (.if_icmp .lt 21, 3) := dk_161 0 21 (dk_at dksX3_isAhead_1 19 rfl rfl)
theorem dX3_isAhead_45 : decode cX3_isAhead 45 = .ok (.aload_n 0, 1) := dk_42 (dk_at dksX3_isAhead_1 22 rfl rfl)
theorem dX3_isAhead_46 : decode cX3_isAhead 46 = .ok (.iload_n 1, 1) := dk_27 (dk_at dksX3_isAhead_1 23 rfl rfl)
theorem dX3_isAhead_47 : decode cX3_isAhead 47 = .ok (.invokevirtual 113, 3) := dk_182 0 113 (dk_at dksX3_isAhead_2 0 rfl rfl)
theorem dX3_isAhead_50 : decode cX3_isAhead 50 = .ok (.aload_n 0, 1) := dk_42 (dk_at dksX3_isAhead_2 3 rfl rfl)
theorem dX3_isAhead_51 : decode cX3_isAhead 51 = .ok (.iload_n 2, 1) := dk_28 (dk_at dksX3_isAhead_2 4 rfl rfl)
theorem dX3_isAhead_52 : decode cX3_isAhead 52 = .ok (.invokevirtual 113, 3) := dk_182 0 113 (dk_at dksX3_isAhead_2 5 rfl rfl)
theorem dX3_isAhead_55 : decode cX3_isAhead 55 = .ok (.if_icmp .ne 12, 3) := dk_160 0 12 (dk_at dksX3_isAhead_2 8 rfl rfl)
theorem dX3_isAhead_58 : decode cX3_isAhead 58 = .ok (.iload_n 1, 1) := dk_27 (dk_at dksX3_isAhead_2 11 rfl rfl)
theorem dX3_isAhead_59 : decode cX3_isAhead 59 = .ok (.iload_n 2, 1) := dk_28 (dk_at dksX3_isAhead_2 12 rfl rfl)
theorem dX3_isAhead_60 : decode cX3_isAhead 60 = .ok (.if_icmp .ge 7, 3) := dk_162 0 7 (dk_at dksX3_isAhead_2 13 rfl rfl)
theorem dX3_isAhead_63 : decode cX3_isAhead 63 = .ok (.iconst 1, 1) := dk_4 (dk_at dksX3_isAhead_2 16 rfl rfl)
theorem dX3_isAhead_64 : decode cX3_isAhead 64 = .ok (.goto 4, 3) := dk_167 0 4 (dk_at dksX3_isAhead_2 17 rfl rfl)
theorem dX3_isAhead_67 : decode cX3_isAhead 67 = .ok (.iconst 0, 1) := dk_3 (dk_at dksX3_isAhead_2 20 rfl rfl)
theorem dX3_isAhead_68 : decode cX3_isAhead 68 = .ok (.ireturn, 1) := dk_172 (dk_at dksX3_isAhead_2 21 rfl rfl)
abbrev cX3_isRight : ByteArray := prog_14_method_70_code
def yX3_isRight : MethodName := ⟨RX3, "isRight", "()Z"⟩
def dkwX3_isRight_1 : List UInt8 := [172]
abbrev dktX3_isRight_1 : List UInt8 := dkwX3_isRight_1 ++ []
def dkwX3_isRight_0 : List UInt8 := [42, 3, 181, 0, 53, 42, 182, 0, 145, 153, 0, 10, 42, 182, 0, 194, 154, 0, 7, 4, 167, 0, 4, 3]
abbrev dktX3_isRight_0 : List UInt8 := dkwX3_isRight_0 ++ dktX3_isRight_1
theorem dksX3_isRight_0 : cX3_isRight.data.toList.drop 0 = dktX3_isRight_0 := by decide +kernel
theorem dksX3_isRight_1 : cX3_isRight.data.toList.drop 24 = dktX3_isRight_1 := dk_seg dksX3_isRight_0 24 rfl rfl
theorem dX3_isRight_0 : decode cX3_isRight 0 = .ok (.aload_n 0, 1) := dk_42 (dk_at dksX3_isRight_0 0 rfl rfl)
theorem dX3_isRight_1 : decode cX3_isRight 1 = .ok (.iconst 0, 1) := dk_3 (dk_at dksX3_isRight_0 1 rfl rfl)
theorem dX3_isRight_2 : decode cX3_isRight 2 = .ok (.putfield 53, 3) := dk_181 0 53 (dk_at dksX3_isRight_0 2 rfl rfl)
theorem dX3_isRight_5 : decode cX3_isRight 5 = .ok (.aload_n 0, 1) := dk_42 (dk_at dksX3_isRight_0 5 rfl rfl)
theorem dX3_isRight_6 : decode cX3_isRight 6 = .ok (.invokevirtual 145, 3) := dk_182 0 145 (dk_at dksX3_isRight_0 6 rfl rfl)
theorem dX3_isRight_9 : decode cX3_isRight 9 = .ok (.ifCond .eq 10, 3) := dk_153 0 10 (dk_at dksX3_isRight_0 9 rfl rfl)
theorem dX3_isRight_12 : decode cX3_isRight 12 = .ok (.aload_n 0, 1) := dk_42 (dk_at dksX3_isRight_0 12 rfl rfl)
theorem dX3_isRight_13 : decode cX3_isRight 13 = .ok (.invokevirtual 194, 3) := dk_182 0 194 (dk_at dksX3_isRight_0 13 rfl rfl)
theorem dX3_isRight_16 : decode cX3_isRight 16 = .ok (.ifCond .ne 7, 3) := dk_154 0 7 (dk_at dksX3_isRight_0 16 rfl rfl)
theorem dX3_isRight_19 : decode cX3_isRight 19 = .ok (.iconst 1, 1) := dk_4 (dk_at dksX3_isRight_0 19 rfl rfl)
theorem dX3_isRight_20 : decode cX3_isRight 20 = .ok (.goto 4, 3) := dk_167 0 4 (dk_at dksX3_isRight_0 20 rfl rfl)
theorem dX3_isRight_23 : decode cX3_isRight 23 = .ok (.iconst 0, 1) := dk_3 (dk_at dksX3_isRight_0 23 rfl rfl)
theorem dX3_isRight_24 : decode cX3_isRight 24 = .ok (.ireturn, 1) := dk_172 (dk_at dksX3_isRight_1 0 rfl rfl)
abbrev cX3_hutLine : ByteArray := prog_14_method_73_code
def yX3_hutLine : MethodName := ⟨RX3, "hutLine", "(I)I"⟩
def dkwX3_hutLine_5 : List UInt8 := [182, 0, 209, 42, 29, 182, 0, 213, 132, 2, 1, 132, 3, 1, 167, 255, 204, 42, 180, 0, 206, 172]
abbrev dktX3_hutLine_5 : List UInt8 := dkwX3_hutLine_5 ++ []
def dkwX3_hutLine_4 : List UInt8 := [16, 63, 29, 96, 46, 27, 159, 0, 6, 167, 0, 26, 42, 28, 154, 0, 8, 16, 58, 167, 0, 5, 16, 44]
abbrev dktX3_hutLine_4 : List UInt8 := dkwX3_hutLine_4 ++ dktX3_hutLine_5
def dkwX3_hutLine_3 : List UInt8 := [16, 41, 182, 0, 209, 3, 61, 3, 62, 29, 42, 180, 0, 7, 3, 46, 162, 0, 48, 42, 180, 0, 7]
abbrev dktX3_hutLine_3 : List UInt8 := dkwX3_hutLine_3 ++ dktX3_hutLine_4
def dkwX3_hutLine_2 : List UInt8 := [182, 0, 213, 42, 16, 44, 182, 0, 209, 42, 42, 180, 0, 7, 16, 87, 27, 96, 46, 182, 0, 213, 42]
abbrev dktX3_hutLine_2 : List UInt8 := dkwX3_hutLine_2 ++ dktX3_hutLine_3
def dkwX3_hutLine_1 : List UInt8 := [3, 172, 42, 3, 181, 0, 206, 42, 16, 40, 182, 0, 209, 42, 42, 180, 0, 7, 16, 81, 27, 96, 46]
abbrev dktX3_hutLine_1 : List UInt8 := dkwX3_hutLine_1 ++ dktX3_hutLine_2
def dkwX3_hutLine_0 : List UInt8 := [42, 42, 27, 182, 0, 142, 153, 0, 7, 3, 167, 0, 4, 4, 181, 0, 53, 42, 180, 0, 53, 158, 0, 5]
abbrev dktX3_hutLine_0 : List UInt8 := dkwX3_hutLine_0 ++ dktX3_hutLine_1
theorem dksX3_hutLine_0 : cX3_hutLine.data.toList.drop 0 = dktX3_hutLine_0 := by decide +kernel
theorem dksX3_hutLine_1 : cX3_hutLine.data.toList.drop 24 = dktX3_hutLine_1 := dk_seg dksX3_hutLine_0 24 rfl rfl
theorem dksX3_hutLine_2 : cX3_hutLine.data.toList.drop 47 = dktX3_hutLine_2 := dk_seg dksX3_hutLine_1 23 rfl rfl
theorem dksX3_hutLine_3 : cX3_hutLine.data.toList.drop 70 = dktX3_hutLine_3 := dk_seg dksX3_hutLine_2 23 rfl rfl
theorem dksX3_hutLine_4 : cX3_hutLine.data.toList.drop 93 = dktX3_hutLine_4 := dk_seg dksX3_hutLine_3 23 rfl rfl
theorem dksX3_hutLine_5 : cX3_hutLine.data.toList.drop 117 = dktX3_hutLine_5 := dk_seg dksX3_hutLine_4 24 rfl rfl
theorem dX3_hutLine_0 : decode cX3_hutLine 0 = .ok (.aload_n 0, 1) := dk_42 (dk_at dksX3_hutLine_0 0 rfl rfl)
theorem dX3_hutLine_1 : decode cX3_hutLine 1 = .ok (.aload_n 0, 1) := dk_42 (dk_at dksX3_hutLine_0 1 rfl rfl)
theorem dX3_hutLine_2 : decode cX3_hutLine 2 = .ok (.iload_n 1, 1) := dk_27 (dk_at dksX3_hutLine_0 2 rfl rfl)
theorem dX3_hutLine_3 : decode cX3_hutLine 3 = .ok (.invokevirtual 142, 3) := dk_182 0 142 (dk_at dksX3_hutLine_0 3 rfl rfl)
theorem dX3_hutLine_6 : decode cX3_hutLine 6 = .ok (.ifCond .eq 7, 3) := dk_153 0 7 (dk_at dksX3_hutLine_0 6 rfl rfl)
theorem dX3_hutLine_9 : decode cX3_hutLine 9 = .ok (.iconst 0, 1) := dk_3 (dk_at dksX3_hutLine_0 9 rfl rfl)
theorem dX3_hutLine_10 : decode cX3_hutLine 10 = .ok (.goto 4, 3) := dk_167 0 4 (dk_at dksX3_hutLine_0 10 rfl rfl)
theorem dX3_hutLine_13 : decode cX3_hutLine 13 = .ok (.iconst 1, 1) := dk_4 (dk_at dksX3_hutLine_0 13 rfl rfl)
theorem dX3_hutLine_14 : decode cX3_hutLine 14 = .ok (.putfield 53, 3) := dk_181 0 53 (dk_at dksX3_hutLine_0 14 rfl rfl)
theorem dX3_hutLine_17 : decode cX3_hutLine 17 = .ok (.aload_n 0, 1) := dk_42 (dk_at dksX3_hutLine_0 17 rfl rfl)
theorem dX3_hutLine_18 : decode cX3_hutLine 18 = .ok (.getfield 53, 3) := dk_180 0 53 (dk_at dksX3_hutLine_0 18 rfl rfl)
theorem dX3_hutLine_21 : decode cX3_hutLine 21 = .ok (.ifCond .le 5, 3) := dk_158 0 5 (dk_at dksX3_hutLine_0 21 rfl rfl)
theorem dX3_hutLine_24 : decode cX3_hutLine 24 = .ok (.iconst 0, 1) := dk_3 (dk_at dksX3_hutLine_1 0 rfl rfl)
theorem dX3_hutLine_25 : decode cX3_hutLine 25 = .ok (.ireturn, 1) := dk_172 (dk_at dksX3_hutLine_1 1 rfl rfl)
theorem dX3_hutLine_26 : decode cX3_hutLine 26 = .ok (.aload_n 0, 1) := dk_42 (dk_at dksX3_hutLine_1 2 rfl rfl)
theorem dX3_hutLine_27 : decode cX3_hutLine 27 = .ok (.iconst 0, 1) := dk_3 (dk_at dksX3_hutLine_1 3 rfl rfl)
theorem dX3_hutLine_28 : decode cX3_hutLine 28 = .ok (.putfield 206, 3) := dk_181 0 206 (dk_at dksX3_hutLine_1 4 rfl rfl)
theorem dX3_hutLine_31 : decode cX3_hutLine 31 = .ok (.aload_n 0, 1) := dk_42 (dk_at dksX3_hutLine_1 7 rfl rfl)
theorem dX3_hutLine_32 : decode cX3_hutLine 32 = .ok (.bipush 40, 2) := dk_16 40 (dk_at dksX3_hutLine_1 8 rfl rfl)
theorem dX3_hutLine_34 : decode cX3_hutLine 34 = .ok (.invokevirtual 209, 3) := dk_182 0 209 (dk_at dksX3_hutLine_1 10 rfl rfl)
theorem dX3_hutLine_37 : decode cX3_hutLine 37 = .ok (.aload_n 0, 1) := dk_42 (dk_at dksX3_hutLine_1 13 rfl rfl)
theorem dX3_hutLine_38 : decode cX3_hutLine 38 = .ok (.aload_n 0, 1) := dk_42 (dk_at dksX3_hutLine_1 14 rfl rfl)
theorem dX3_hutLine_39 : decode cX3_hutLine 39 = .ok (.getfield 7, 3) := dk_180 0 7 (dk_at dksX3_hutLine_1 15 rfl rfl)
theorem dX3_hutLine_42 : decode cX3_hutLine 42 = .ok (.bipush 81, 2) := dk_16 81 (dk_at dksX3_hutLine_1 18 rfl rfl)
theorem dX3_hutLine_44 : decode cX3_hutLine 44 = .ok (.iload_n 1, 1) := dk_27 (dk_at dksX3_hutLine_1 20 rfl rfl)
theorem dX3_hutLine_45 : decode cX3_hutLine 45 = .ok (.iadd, 1) := dk_96 (dk_at dksX3_hutLine_1 21 rfl rfl)
theorem dX3_hutLine_46 : decode cX3_hutLine 46 = .ok (.iaload, 1) := dk_46 (dk_at dksX3_hutLine_1 22 rfl rfl)
theorem dX3_hutLine_47 : decode cX3_hutLine 47 = .ok (.invokevirtual 213, 3) := dk_182 0 213 (dk_at dksX3_hutLine_2 0 rfl rfl)
theorem dX3_hutLine_50 : decode cX3_hutLine 50 = .ok (.aload_n 0, 1) := dk_42 (dk_at dksX3_hutLine_2 3 rfl rfl)
theorem dX3_hutLine_51 : decode cX3_hutLine 51 = .ok (.bipush 44, 2) := dk_16 44 (dk_at dksX3_hutLine_2 4 rfl rfl)
theorem dX3_hutLine_53 : decode cX3_hutLine 53 = .ok (.invokevirtual 209, 3) := dk_182 0 209 (dk_at dksX3_hutLine_2 6 rfl rfl)
theorem dX3_hutLine_56 : decode cX3_hutLine 56 = .ok (.aload_n 0, 1) := dk_42 (dk_at dksX3_hutLine_2 9 rfl rfl)
theorem dX3_hutLine_57 : decode cX3_hutLine 57 = .ok (.aload_n 0, 1) := dk_42 (dk_at dksX3_hutLine_2 10 rfl rfl)
theorem dX3_hutLine_58 : decode cX3_hutLine 58 = .ok (.getfield 7, 3) := dk_180 0 7 (dk_at dksX3_hutLine_2 11 rfl rfl)
theorem dX3_hutLine_61 : decode cX3_hutLine 61 = .ok (.bipush 87, 2) := dk_16 87 (dk_at dksX3_hutLine_2 14 rfl rfl)
theorem dX3_hutLine_63 : decode cX3_hutLine 63 = .ok (.iload_n 1, 1) := dk_27 (dk_at dksX3_hutLine_2 16 rfl rfl)
theorem dX3_hutLine_64 : decode cX3_hutLine 64 = .ok (.iadd, 1) := dk_96 (dk_at dksX3_hutLine_2 17 rfl rfl)
theorem dX3_hutLine_65 : decode cX3_hutLine 65 = .ok (.iaload, 1) := dk_46 (dk_at dksX3_hutLine_2 18 rfl rfl)
theorem dX3_hutLine_66 : decode cX3_hutLine 66 = .ok (.invokevirtual 213, 3) := dk_182 0 213 (dk_at dksX3_hutLine_2 19 rfl rfl)
theorem dX3_hutLine_69 : decode cX3_hutLine 69 = .ok (.aload_n 0, 1) := dk_42 (dk_at dksX3_hutLine_2 22 rfl rfl)
theorem dX3_hutLine_70 : decode cX3_hutLine 70 = .ok (.bipush 41, 2) := dk_16 41 (dk_at dksX3_hutLine_3 0 rfl rfl)
theorem dX3_hutLine_72 : decode cX3_hutLine 72 = .ok (.invokevirtual 209, 3) := dk_182 0 209 (dk_at dksX3_hutLine_3 2 rfl rfl)
theorem dX3_hutLine_75 : decode cX3_hutLine 75 = .ok (.iconst 0, 1) := dk_3 (dk_at dksX3_hutLine_3 5 rfl rfl)
theorem dX3_hutLine_76 : decode cX3_hutLine 76 = .ok (.istore_n 2, 1) := dk_61 (dk_at dksX3_hutLine_3 6 rfl rfl)
theorem dX3_hutLine_77 : decode cX3_hutLine 77 = .ok (.iconst 0, 1) := dk_3 (dk_at dksX3_hutLine_3 7 rfl rfl)
theorem dX3_hutLine_78 : decode cX3_hutLine 78 = .ok (.istore_n 3, 1) := dk_62 (dk_at dksX3_hutLine_3 8 rfl rfl)
theorem dX3_hutLine_79 : decode cX3_hutLine 79 = .ok (.iload_n 3, 1) := dk_29 (dk_at dksX3_hutLine_3 9 rfl rfl)
theorem dX3_hutLine_80 : decode cX3_hutLine 80 = .ok (.aload_n 0, 1) := dk_42 (dk_at dksX3_hutLine_3 10 rfl rfl)
theorem dX3_hutLine_81 : decode cX3_hutLine 81 = .ok (.getfield 7, 3) := dk_180 0 7 (dk_at dksX3_hutLine_3 11 rfl rfl)
theorem dX3_hutLine_84 : decode cX3_hutLine 84 = .ok (.iconst 0, 1) := dk_3 (dk_at dksX3_hutLine_3 14 rfl rfl)
theorem dX3_hutLine_85 : decode cX3_hutLine 85 = .ok (.iaload, 1) := dk_46 (dk_at dksX3_hutLine_3 15 rfl rfl)
theorem dX3_hutLine_86 : decode cX3_hutLine 86 = .ok (.if_icmp .ge 48, 3) := dk_162 0 48 (dk_at dksX3_hutLine_3 16 rfl rfl)
theorem dX3_hutLine_89 : decode cX3_hutLine 89 = .ok (.aload_n 0, 1) := dk_42 (dk_at dksX3_hutLine_3 19 rfl rfl)
theorem dX3_hutLine_90 : decode cX3_hutLine 90 = .ok (.getfield 7, 3) := dk_180 0 7 (dk_at dksX3_hutLine_3 20 rfl rfl)
theorem dX3_hutLine_93 : decode cX3_hutLine 93 = .ok (.bipush 63, 2) := dk_16 63 (dk_at dksX3_hutLine_4 0 rfl rfl)
theorem dX3_hutLine_95 : decode cX3_hutLine 95 = .ok (.iload_n 3, 1) := dk_29 (dk_at dksX3_hutLine_4 2 rfl rfl)
theorem dX3_hutLine_96 : decode cX3_hutLine 96 = .ok (.iadd, 1) := dk_96 (dk_at dksX3_hutLine_4 3 rfl rfl)
theorem dX3_hutLine_97 : decode cX3_hutLine 97 = .ok (.iaload, 1) := dk_46 (dk_at dksX3_hutLine_4 4 rfl rfl)
theorem dX3_hutLine_98 : decode cX3_hutLine 98 = .ok (.iload_n 1, 1) := dk_27 (dk_at dksX3_hutLine_4 5 rfl rfl)
theorem dX3_hutLine_99 : decode cX3_hutLine 99 = .ok (.if_icmp .eq 6, 3) := dk_159 0 6 (dk_at dksX3_hutLine_4 6 rfl rfl)
theorem dX3_hutLine_102 : decode cX3_hutLine 102 = .ok (.goto 26, 3) := dk_167 0 26 (dk_at dksX3_hutLine_4 9 rfl rfl)
theorem dX3_hutLine_105 : decode cX3_hutLine 105 = .ok (.aload_n 0, 1) := dk_42 (dk_at dksX3_hutLine_4 12 rfl rfl)
theorem dX3_hutLine_106 : decode cX3_hutLine 106 = .ok (.iload_n 2, 1) := dk_28 (dk_at dksX3_hutLine_4 13 rfl rfl)
theorem dX3_hutLine_107 : decode cX3_hutLine 107 = .ok (.ifCond .ne 8, 3) := dk_154 0 8 (dk_at dksX3_hutLine_4 14 rfl rfl)
theorem dX3_hutLine_110 : decode cX3_hutLine 110 = .ok (.bipush 58, 2) := dk_16 58 (dk_at dksX3_hutLine_4 17 rfl rfl)
theorem dX3_hutLine_112 : decode cX3_hutLine 112 = .ok (.goto 5, 3) := dk_167 0 5 (dk_at dksX3_hutLine_4 19 rfl rfl)
theorem dX3_hutLine_115 : decode cX3_hutLine 115 = .ok (.bipush 44, 2) := dk_16 44 (dk_at dksX3_hutLine_4 22 rfl rfl)
theorem dX3_hutLine_117 : decode cX3_hutLine 117 = .ok (.invokevirtual 209, 3) := dk_182 0 209 (dk_at dksX3_hutLine_5 0 rfl rfl)
theorem dX3_hutLine_120 : decode cX3_hutLine 120 = .ok (.aload_n 0, 1) := dk_42 (dk_at dksX3_hutLine_5 3 rfl rfl)
theorem dX3_hutLine_121 : decode cX3_hutLine 121 = .ok (.iload_n 3, 1) := dk_29 (dk_at dksX3_hutLine_5 4 rfl rfl)
theorem dX3_hutLine_122 : decode cX3_hutLine 122 = .ok (.invokevirtual 213, 3) := dk_182 0 213 (dk_at dksX3_hutLine_5 5 rfl rfl)
theorem dX3_hutLine_125 : decode cX3_hutLine 125 = .ok (.iinc 2 1, 3) := dk_132 2 1 (dk_at dksX3_hutLine_5 8 rfl rfl)
theorem dX3_hutLine_128 : decode cX3_hutLine 128 = .ok (.iinc 3 1, 3) := dk_132 3 1 (dk_at dksX3_hutLine_5 11 rfl rfl)
theorem dX3_hutLine_131 : decode cX3_hutLine 131 = .ok (.goto (-52), 3) := dk_167 255 204 (dk_at dksX3_hutLine_5 14 rfl rfl)
theorem dX3_hutLine_134 : decode cX3_hutLine 134 = .ok (.aload_n 0, 1) := dk_42 (dk_at dksX3_hutLine_5 17 rfl rfl)
theorem dX3_hutLine_135 : decode cX3_hutLine 135 = .ok (.getfield 206, 3) := dk_180 0 206 (dk_at dksX3_hutLine_5 18 rfl rfl)
theorem dX3_hutLine_138 : decode cX3_hutLine 138 = .ok (.ireturn, 1) := dk_172 (dk_at dksX3_hutLine_5 21 rfl rfl)
abbrev cX3_writes : ByteArray := prog_14_method_71_code
def yX3_writes : MethodName := ⟨RX3, "writes", "(I)V"⟩
def dkwX3_writes_0 : List UInt8 := [42, 180, 0, 34, 42, 180, 0, 206, 27, 79, 42, 89, 180, 0, 206, 4, 96, 181, 0, 206, 177]
abbrev dktX3_writes_0 : List UInt8 := dkwX3_writes_0 ++ []
theorem dksX3_writes_0 : cX3_writes.data.toList.drop 0 = dktX3_writes_0 := by decide +kernel
theorem dX3_writes_0 : decode cX3_writes 0 = .ok (.aload_n 0, 1) := dk_42 (dk_at dksX3_writes_0 0 rfl rfl)
theorem dX3_writes_1 : decode cX3_writes 1 = .ok (.getfield 34, 3) := dk_180 0 34 (dk_at dksX3_writes_0 1 rfl rfl)
theorem dX3_writes_4 : decode cX3_writes 4 = .ok (.aload_n 0, 1) := dk_42 (dk_at dksX3_writes_0 4 rfl rfl)
theorem dX3_writes_5 : decode cX3_writes 5 = .ok (.getfield 206, 3) := dk_180 0 206 (dk_at dksX3_writes_0 5 rfl rfl)
theorem dX3_writes_8 : decode cX3_writes 8 = .ok (.iload_n 1, 1) := dk_27 (dk_at dksX3_writes_0 8 rfl rfl)
theorem dX3_writes_9 : decode cX3_writes 9 = .ok (.iastore, 1) := dk_79 (dk_at dksX3_writes_0 9 rfl rfl)
theorem dX3_writes_10 : decode cX3_writes 10 = .ok (.aload_n 0, 1) := dk_42 (dk_at dksX3_writes_0 10 rfl rfl)
theorem dX3_writes_11 : decode cX3_writes 11 = .ok (.dup, 1) := dk_89 (dk_at dksX3_writes_0 11 rfl rfl)
theorem dX3_writes_12 : decode cX3_writes 12 = .ok (.getfield 206, 3) := dk_180 0 206 (dk_at dksX3_writes_0 12 rfl rfl)
theorem dX3_writes_15 : decode cX3_writes 15 = .ok (.iconst 1, 1) := dk_4 (dk_at dksX3_writes_0 15 rfl rfl)
theorem dX3_writes_16 : decode cX3_writes 16 = .ok (.iadd, 1) := dk_96 (dk_at dksX3_writes_0 16 rfl rfl)
theorem dX3_writes_17 : decode cX3_writes 17 = .ok (.putfield 206, 3) := dk_181 0 206 (dk_at dksX3_writes_0 17 rfl rfl)
theorem dX3_writes_20 : decode cX3_writes 20 = .ok (.return_, 1) := dk_177 (dk_at dksX3_writes_0 20 rfl rfl)
abbrev cX3_writesNumber : ByteArray := prog_14_method_72_code
def yX3_writesNumber : MethodName := ⟨RX3, "writesNumber", "(I)V"⟩
def dkwX3_writesNumber_1 : List UInt8 := [96, 182, 0, 209, 177]
abbrev dktX3_writesNumber_1 : List UInt8 := dkwX3_writesNumber_1 ++ []
def dkwX3_writesNumber_0 : List UInt8 := [27, 16, 9, 164, 0, 14, 42, 16, 48, 27, 16, 10, 108, 96, 182, 0, 209, 42, 16, 48, 27, 16, 10, 112]
abbrev dktX3_writesNumber_0 : List UInt8 := dkwX3_writesNumber_0 ++ dktX3_writesNumber_1
theorem dksX3_writesNumber_0 : cX3_writesNumber.data.toList.drop 0 = dktX3_writesNumber_0 := by decide +kernel
theorem dksX3_writesNumber_1 : cX3_writesNumber.data.toList.drop 24 = dktX3_writesNumber_1 := dk_seg dksX3_writesNumber_0 24 rfl rfl
theorem dX3_writesNumber_0 : decode cX3_writesNumber 0 = .ok (.iload_n 1, 1) := dk_27 (dk_at dksX3_writesNumber_0 0 rfl rfl)
theorem dX3_writesNumber_1 : decode cX3_writesNumber 1 = .ok (.bipush 9, 2) := dk_16 9 (dk_at dksX3_writesNumber_0 1 rfl rfl)
theorem dX3_writesNumber_3 : decode cX3_writesNumber 3 = .ok (.if_icmp .le 14, 3) := dk_164 0 14 (dk_at dksX3_writesNumber_0 3 rfl rfl)
theorem dX3_writesNumber_6 : decode cX3_writesNumber 6 = .ok (.aload_n 0, 1) := dk_42 (dk_at dksX3_writesNumber_0 6 rfl rfl)
theorem dX3_writesNumber_7 : decode cX3_writesNumber 7 = .ok (.bipush 48, 2) := dk_16 48 (dk_at dksX3_writesNumber_0 7 rfl rfl)
theorem dX3_writesNumber_9 : decode cX3_writesNumber 9 = .ok (.iload_n 1, 1) := dk_27 (dk_at dksX3_writesNumber_0 9 rfl rfl)
theorem dX3_writesNumber_10 : decode cX3_writesNumber 10 = .ok (.bipush 10, 2) := dk_16 10 (dk_at dksX3_writesNumber_0 10 rfl rfl)
theorem dX3_writesNumber_12 : decode cX3_writesNumber 12 = .ok (.idiv, 1) := dk_108 (dk_at dksX3_writesNumber_0 12 rfl rfl)
theorem dX3_writesNumber_13 : decode cX3_writesNumber 13 = .ok (.iadd, 1) := dk_96 (dk_at dksX3_writesNumber_0 13 rfl rfl)
theorem dX3_writesNumber_14 : decode cX3_writesNumber 14 = .ok (.invokevirtual 209, 3) := dk_182 0 209 (dk_at dksX3_writesNumber_0 14 rfl rfl)
theorem dX3_writesNumber_17 : decode cX3_writesNumber 17 = .ok (.aload_n 0, 1) := dk_42 (dk_at dksX3_writesNumber_0 17 rfl rfl)
theorem dX3_writesNumber_18 : decode cX3_writesNumber 18 = .ok (.bipush 48, 2) := dk_16 48 (dk_at dksX3_writesNumber_0 18 rfl rfl)
theorem dX3_writesNumber_20 : decode cX3_writesNumber 20 = .ok (.iload_n 1, 1) := dk_27 (dk_at dksX3_writesNumber_0 20 rfl rfl)
theorem dX3_writesNumber_21 : decode cX3_writesNumber 21 = .ok (.bipush 10, 2) := dk_16 10 (dk_at dksX3_writesNumber_0 21 rfl rfl)
theorem dX3_writesNumber_23 : decode cX3_writesNumber 23 = .ok (.irem, 1) := dk_112 (dk_at dksX3_writesNumber_0 23 rfl rfl)
theorem dX3_writesNumber_24 : decode cX3_writesNumber 24 = .ok (.iadd, 1) := dk_96 (dk_at dksX3_writesNumber_1 0 rfl rfl)
theorem dX3_writesNumber_25 : decode cX3_writesNumber 25 = .ok (.invokevirtual 209, 3) := dk_182 0 209 (dk_at dksX3_writesNumber_1 1 rfl rfl)
theorem dX3_writesNumber_28 : decode cX3_writesNumber 28 = .ok (.return_, 1) := dk_177 (dk_at dksX3_writesNumber_1 4 rfl rfl)
abbrev cX3_line : ByteArray := prog_14_method_74_code
def yX3_line : MethodName := ⟨RX3, "line", "()I"⟩
def dkwX3_line_2 : List UInt8 := [16, 63, 27, 96, 46, 96, 182, 0, 209, 132, 1, 1, 167, 255, 209, 42, 180, 0, 206, 172]
abbrev dktX3_line_2 : List UInt8 := dkwX3_line_2 ++ []
def dkwX3_line_1 : List UInt8 := [180, 0, 7, 16, 63, 27, 96, 46, 2, 160, 0, 8, 16, 45, 167, 0, 15, 16, 48, 42, 180, 0, 7]
abbrev dktX3_line_1 : List UInt8 := dkwX3_line_1 ++ dktX3_line_2
def dkwX3_line_0 : List UInt8 := [42, 3, 181, 0, 53, 42, 3, 181, 0, 206, 3, 60, 27, 42, 180, 0, 7, 3, 46, 162, 0, 43, 42, 42]
abbrev dktX3_line_0 : List UInt8 := dkwX3_line_0 ++ dktX3_line_1
theorem dksX3_line_0 : cX3_line.data.toList.drop 0 = dktX3_line_0 := by decide +kernel
theorem dksX3_line_1 : cX3_line.data.toList.drop 24 = dktX3_line_1 := dk_seg dksX3_line_0 24 rfl rfl
theorem dksX3_line_2 : cX3_line.data.toList.drop 47 = dktX3_line_2 := dk_seg dksX3_line_1 23 rfl rfl
theorem dX3_line_0 : decode cX3_line 0 = .ok (.aload_n 0, 1) := dk_42 (dk_at dksX3_line_0 0 rfl rfl)
theorem dX3_line_1 : decode cX3_line 1 = .ok (.iconst 0, 1) := dk_3 (dk_at dksX3_line_0 1 rfl rfl)
theorem dX3_line_2 : decode cX3_line 2 = .ok (.putfield 53, 3) := dk_181 0 53 (dk_at dksX3_line_0 2 rfl rfl)
theorem dX3_line_5 : decode cX3_line 5 = .ok (.aload_n 0, 1) := dk_42 (dk_at dksX3_line_0 5 rfl rfl)
theorem dX3_line_6 : decode cX3_line 6 = .ok (.iconst 0, 1) := dk_3 (dk_at dksX3_line_0 6 rfl rfl)
theorem dX3_line_7 : decode cX3_line 7 = .ok (.putfield 206, 3) := dk_181 0 206 (dk_at dksX3_line_0 7 rfl rfl)
theorem dX3_line_10 : decode cX3_line 10 = .ok (.iconst 0, 1) := dk_3 (dk_at dksX3_line_0 10 rfl rfl)
theorem dX3_line_11 : decode cX3_line 11 = .ok (.istore_n 1, 1) := dk_60 (dk_at dksX3_line_0 11 rfl rfl)
theorem dX3_line_12 : decode cX3_line 12 = .ok (.iload_n 1, 1) := dk_27 (dk_at dksX3_line_0 12 rfl rfl)
theorem dX3_line_13 : decode cX3_line 13 = .ok (.aload_n 0, 1) := dk_42 (dk_at dksX3_line_0 13 rfl rfl)
theorem dX3_line_14 : decode cX3_line 14 = .ok (.getfield 7, 3) := dk_180 0 7 (dk_at dksX3_line_0 14 rfl rfl)
theorem dX3_line_17 : decode cX3_line 17 = .ok (.iconst 0, 1) := dk_3 (dk_at dksX3_line_0 17 rfl rfl)
theorem dX3_line_18 : decode cX3_line 18 = .ok (.iaload, 1) := dk_46 (dk_at dksX3_line_0 18 rfl rfl)
theorem dX3_line_19 : decode cX3_line 19 = .ok (.if_icmp .ge 43, 3) := dk_162 0 43 (dk_at dksX3_line_0 19 rfl rfl)
theorem dX3_line_22 : decode cX3_line 22 = .ok (.aload_n 0, 1) := dk_42 (dk_at dksX3_line_0 22 rfl rfl)
theorem dX3_line_23 : decode cX3_line 23 = .ok (.aload_n 0, 1) := dk_42 (dk_at dksX3_line_0 23 rfl rfl)
theorem dX3_line_24 : decode cX3_line 24 = .ok (.getfield 7, 3) := dk_180 0 7 (dk_at dksX3_line_1 0 rfl rfl)
theorem dX3_line_27 : decode cX3_line 27 = .ok (.bipush 63, 2) := dk_16 63 (dk_at dksX3_line_1 3 rfl rfl)
theorem dX3_line_29 : decode cX3_line 29 = .ok (.iload_n 1, 1) := dk_27 (dk_at dksX3_line_1 5 rfl rfl)
theorem dX3_line_30 : decode cX3_line 30 = .ok (.iadd, 1) := dk_96 (dk_at dksX3_line_1 6 rfl rfl)
theorem dX3_line_31 : decode cX3_line 31 = .ok (.iaload, 1) := dk_46 (dk_at dksX3_line_1 7 rfl rfl)
theorem dX3_line_32 : decode cX3_line 32 = .ok (.iconst (-1), 1) := dk_2 (dk_at dksX3_line_1 8 rfl rfl)
theorem dX3_line_33 : decode cX3_line 33 = .ok (.if_icmp .ne 8, 3) := dk_160 0 8 (dk_at dksX3_line_1 9 rfl rfl)
theorem dX3_line_36 : decode cX3_line 36 = .ok (.bipush 45, 2) := dk_16 45 (dk_at dksX3_line_1 12 rfl rfl)
theorem dX3_line_38 : decode cX3_line 38 = .ok (.goto 15, 3) := dk_167 0 15 (dk_at dksX3_line_1 14 rfl rfl)
theorem dX3_line_41 : decode cX3_line 41 = .ok (.bipush 48, 2) := dk_16 48 (dk_at dksX3_line_1 17 rfl rfl)
theorem dX3_line_43 : decode cX3_line 43 = .ok (.aload_n 0, 1) := dk_42 (dk_at dksX3_line_1 19 rfl rfl)
theorem dX3_line_44 : decode cX3_line 44 = .ok (.getfield 7, 3) := dk_180 0 7 (dk_at dksX3_line_1 20 rfl rfl)
theorem dX3_line_47 : decode cX3_line 47 = .ok (.bipush 63, 2) := dk_16 63 (dk_at dksX3_line_2 0 rfl rfl)
theorem dX3_line_49 : decode cX3_line 49 = .ok (.iload_n 1, 1) := dk_27 (dk_at dksX3_line_2 2 rfl rfl)
theorem dX3_line_50 : decode cX3_line 50 = .ok (.iadd, 1) := dk_96 (dk_at dksX3_line_2 3 rfl rfl)
theorem dX3_line_51 : decode cX3_line 51 = .ok (.iaload, 1) := dk_46 (dk_at dksX3_line_2 4 rfl rfl)
theorem dX3_line_52 : decode cX3_line 52 = .ok (.iadd, 1) := dk_96 (dk_at dksX3_line_2 5 rfl rfl)
theorem dX3_line_53 : decode cX3_line 53 = .ok (.invokevirtual 209, 3) := dk_182 0 209 (dk_at dksX3_line_2 6 rfl rfl)
theorem dX3_line_56 : decode cX3_line 56 = .ok (.iinc 1 1, 3) := dk_132 1 1 (dk_at dksX3_line_2 9 rfl rfl)
theorem dX3_line_59 : decode cX3_line 59 = .ok (.goto (-47), 3) := dk_167 255 209 (dk_at dksX3_line_2 12 rfl rfl)
theorem dX3_line_62 : decode cX3_line 62 = .ok (.aload_n 0, 1) := dk_42 (dk_at dksX3_line_2 15 rfl rfl)
theorem dX3_line_63 : decode cX3_line 63 = .ok (.getfield 206, 3) := dk_180 0 206 (dk_at dksX3_line_2 16 rfl rfl)
theorem dX3_line_66 : decode cX3_line 66 = .ok (.ireturn, 1) := dk_172 (dk_at dksX3_line_2 19 rfl rfl)
abbrev cX3_character : ByteArray := prog_14_method_75_code
def yX3_character : MethodName := ⟨RX3, "character", "(I)C"⟩
def dkwX3_character_1 : List UInt8 := [180, 0, 53, 158, 0, 7, 3, 167, 0, 10, 42, 180, 0, 34, 27, 46, 146, 172]
abbrev dktX3_character_1 : List UInt8 := dkwX3_character_1 ++ []
def dkwX3_character_0 : List UInt8 := [42, 27, 3, 42, 180, 0, 206, 4, 100, 184, 0, 78, 153, 0, 7, 3, 167, 0, 4, 4, 181, 0, 53, 42]
abbrev dktX3_character_0 : List UInt8 := dkwX3_character_0 ++ dktX3_character_1
theorem dksX3_character_0 : cX3_character.data.toList.drop 0 = dktX3_character_0 := by decide +kernel
theorem dksX3_character_1 : cX3_character.data.toList.drop 24 = dktX3_character_1 := dk_seg dksX3_character_0 24 rfl rfl
theorem dX3_character_0 : decode cX3_character 0 = .ok (.aload_n 0, 1) := dk_42 (dk_at dksX3_character_0 0 rfl rfl)
theorem dX3_character_1 : decode cX3_character 1 = .ok (.iload_n 1, 1) := dk_27 (dk_at dksX3_character_0 1 rfl rfl)
theorem dX3_character_2 : decode cX3_character 2 = .ok (.iconst 0, 1) := dk_3 (dk_at dksX3_character_0 2 rfl rfl)
theorem dX3_character_3 : decode cX3_character 3 = .ok (.aload_n 0, 1) := dk_42 (dk_at dksX3_character_0 3 rfl rfl)
theorem dX3_character_4 : decode cX3_character 4 = .ok (.getfield 206, 3) := dk_180 0 206 (dk_at dksX3_character_0 4 rfl rfl)
theorem dX3_character_7 : decode cX3_character 7 = .ok (.iconst 1, 1) := dk_4 (dk_at dksX3_character_0 7 rfl rfl)
theorem dX3_character_8 : decode cX3_character 8 = .ok (.isub, 1) := dk_100 (dk_at dksX3_character_0 8 rfl rfl)
theorem dX3_character_9 : decode cX3_character 9 = .ok (.invokestatic 78, 3) := dk_184 0 78 (dk_at dksX3_character_0 9 rfl rfl)
theorem dX3_character_12 : decode cX3_character 12 = .ok (.ifCond .eq 7, 3) := dk_153 0 7 (dk_at dksX3_character_0 12 rfl rfl)
theorem dX3_character_15 : decode cX3_character 15 = .ok (.iconst 0, 1) := dk_3 (dk_at dksX3_character_0 15 rfl rfl)
theorem dX3_character_16 : decode cX3_character 16 = .ok (.goto 4, 3) := dk_167 0 4 (dk_at dksX3_character_0 16 rfl rfl)
theorem dX3_character_19 : decode cX3_character 19 = .ok (.iconst 1, 1) := dk_4 (dk_at dksX3_character_0 19 rfl rfl)
theorem dX3_character_20 : decode cX3_character 20 = .ok (.putfield 53, 3) := dk_181 0 53 (dk_at dksX3_character_0 20 rfl rfl)
theorem dX3_character_23 : decode cX3_character 23 = .ok (.aload_n 0, 1) := dk_42 (dk_at dksX3_character_0 23 rfl rfl)
theorem dX3_character_24 : decode cX3_character 24 = .ok (.getfield 53, 3) := dk_180 0 53 (dk_at dksX3_character_1 0 rfl rfl)
theorem dX3_character_27 : decode cX3_character 27 = .ok (.ifCond .le 7, 3) := dk_158 0 7 (dk_at dksX3_character_1 3 rfl rfl)
theorem dX3_character_30 : decode cX3_character 30 = .ok (.iconst 0, 1) := dk_3 (dk_at dksX3_character_1 6 rfl rfl)
theorem dX3_character_31 : decode cX3_character 31 = .ok (.goto 10, 3) := dk_167 0 10 (dk_at dksX3_character_1 7 rfl rfl)
theorem dX3_character_34 : decode cX3_character 34 = .ok (.aload_n 0, 1) := dk_42 (dk_at dksX3_character_1 10 rfl rfl)
theorem dX3_character_35 : decode cX3_character 35 = .ok (.getfield 34, 3) := dk_180 0 34 (dk_at dksX3_character_1 11 rfl rfl)
theorem dX3_character_38 : decode cX3_character 38 = .ok (.iload_n 1, 1) := dk_27 (dk_at dksX3_character_1 14 rfl rfl)
theorem dX3_character_39 : decode cX3_character 39 = .ok (.iaload, 1) := dk_46 (dk_at dksX3_character_1 15 rfl rfl)
theorem dX3_character_40 : decode cX3_character 40 = .ok (.i2c, 1) := dk_146 (dk_at dksX3_character_1 16 rfl rfl)
theorem dX3_character_41 : decode cX3_character 41 = .ok (.ireturn, 1) := dk_172 (dk_at dksX3_character_1 17 rfl rfl)
abbrev cX3_refusal : ByteArray := prog_14_method_76_code
def yX3_refusal : MethodName := ⟨RX3, "refusal", "(Z)I"⟩
def dkwX3_refusal_1 : List UInt8 := [167, 0, 7, 42, 180, 0, 72, 172]
abbrev dktX3_refusal_1 : List UInt8 := dkwX3_refusal_1 ++ []
def dkwX3_refusal_0 : List UInt8 := [42, 42, 180, 0, 72, 154, 0, 7, 4, 167, 0, 4, 3, 181, 0, 53, 27, 153, 0, 10, 42, 180, 0, 75]
abbrev dktX3_refusal_0 : List UInt8 := dkwX3_refusal_0 ++ dktX3_refusal_1
theorem dksX3_refusal_0 : cX3_refusal.data.toList.drop 0 = dktX3_refusal_0 := by decide +kernel
theorem dksX3_refusal_1 : cX3_refusal.data.toList.drop 24 = dktX3_refusal_1 := dk_seg dksX3_refusal_0 24 rfl rfl
theorem dX3_refusal_0 : decode cX3_refusal 0 = .ok (.aload_n 0, 1) := dk_42 (dk_at dksX3_refusal_0 0 rfl rfl)
theorem dX3_refusal_1 : decode cX3_refusal 1 = .ok (.aload_n 0, 1) := dk_42 (dk_at dksX3_refusal_0 1 rfl rfl)
theorem dX3_refusal_2 : decode cX3_refusal 2 = .ok (.getfield 72, 3) := dk_180 0 72 (dk_at dksX3_refusal_0 2 rfl rfl)
theorem dX3_refusal_5 : decode cX3_refusal 5 = .ok (.ifCond .ne 7, 3) := dk_154 0 7 (dk_at dksX3_refusal_0 5 rfl rfl)
theorem dX3_refusal_8 : decode cX3_refusal 8 = .ok (.iconst 1, 1) := dk_4 (dk_at dksX3_refusal_0 8 rfl rfl)
theorem dX3_refusal_9 : decode cX3_refusal 9 = .ok (.goto 4, 3) := dk_167 0 4 (dk_at dksX3_refusal_0 9 rfl rfl)
theorem dX3_refusal_12 : decode cX3_refusal 12 = .ok (.iconst 0, 1) := dk_3 (dk_at dksX3_refusal_0 12 rfl rfl)
theorem dX3_refusal_13 : decode cX3_refusal 13 = .ok (.putfield 53, 3) := dk_181 0 53 (dk_at dksX3_refusal_0 13 rfl rfl)
theorem dX3_refusal_16 : decode cX3_refusal 16 = .ok (.iload_n 1, 1) := dk_27 (dk_at dksX3_refusal_0 16 rfl rfl)
theorem dX3_refusal_17 : decode cX3_refusal 17 = .ok (.ifCond .eq 10, 3) := dk_153 0 10 (dk_at dksX3_refusal_0 17 rfl rfl)
theorem dX3_refusal_20 : decode cX3_refusal 20 = .ok (.aload_n 0, 1) := dk_42 (dk_at dksX3_refusal_0 20 rfl rfl)
theorem dX3_refusal_21 : decode cX3_refusal 21 = .ok (.getfield 75, 3) := dk_180 0 75 (dk_at dksX3_refusal_0 21 rfl rfl)
theorem dX3_refusal_24 : decode cX3_refusal 24 = .ok (.goto 7, 3) := dk_167 0 7 (dk_at dksX3_refusal_1 0 rfl rfl)
theorem dX3_refusal_27 : decode cX3_refusal 27 = .ok (.aload_n 0, 1) := dk_42 (dk_at dksX3_refusal_1 3 rfl rfl)
theorem dX3_refusal_28 : decode cX3_refusal 28 = .ok (.getfield 72, 3) := dk_180 0 72 (dk_at dksX3_refusal_1 4 rfl rfl)
theorem dX3_refusal_31 : decode cX3_refusal 31 = .ok (.ireturn, 1) := dk_172 (dk_at dksX3_refusal_1 7 rfl rfl)
abbrev cX3_account : ByteArray := prog_14_method_79_code
def yX3_account : MethodName := ⟨RX3, "account", "(I)I"⟩
def dkwX3_account_5 : List UInt8 := [182, 0, 69, 172]
abbrev dktX3_account_5 : List UInt8 := dkwX3_account_5 ++ []
def dkwX3_account_4 : List UInt8 := [7, 46, 172, 42, 180, 0, 7, 8, 46, 172, 42, 180, 0, 222, 172, 42, 180, 0, 56, 172, 42, 4]
abbrev dktX3_account_4 : List UInt8 := dkwX3_account_4 ++ dktX3_account_5
def dkwX3_account_3 : List UInt8 := [42, 2, 182, 0, 113, 172, 42, 180, 0, 7, 5, 46, 172, 42, 180, 0, 7, 6, 46, 172, 42, 180, 0, 7]
abbrev dktX3_account_3 : List UInt8 := dkwX3_account_3 ++ dktX3_account_4
def dkwX3_account_2 : List UInt8 := [42, 180, 0, 7, 3, 46, 172, 42, 180, 0, 7, 4, 46, 172, 42, 182, 0, 216, 172, 42, 182, 0, 219, 172]
abbrev dktX3_account_2 : List UInt8 := dkwX3_account_2 ++ dktX3_account_3
def dkwX3_account_1 : List UInt8 := [170, 0, 0, 0, 0, 126, 0, 0, 0, 0, 0, 0, 0, 10, 0, 0, 0, 58, 0, 0, 0, 65, 0, 0, 0, 72, 0, 0, 0, 77, 0, 0, 0, 82, 0, 0, 0, 88, 0, 0, 0, 95, 0, 0, 0, 102, 0, 0, 0, 109, 0, 0, 0, 116, 0, 0, 0, 121]
abbrev dktX3_account_1 : List UInt8 := dkwX3_account_1 ++ dktX3_account_2
def dkwX3_account_0 : List UInt8 := [42, 3, 181, 0, 53, 27]
abbrev dktX3_account_0 : List UInt8 := dkwX3_account_0 ++ dktX3_account_1
theorem dksX3_account_0 : cX3_account.data.toList.drop 0 = dktX3_account_0 := by decide +kernel
theorem dksX3_account_1 : cX3_account.data.toList.drop 6 = dktX3_account_1 := dk_seg dksX3_account_0 6 rfl rfl
theorem dksX3_account_2 : cX3_account.data.toList.drop 64 = dktX3_account_2 := dk_seg dksX3_account_1 58 rfl rfl
theorem dksX3_account_3 : cX3_account.data.toList.drop 88 = dktX3_account_3 := dk_seg dksX3_account_2 24 rfl rfl
theorem dksX3_account_4 : cX3_account.data.toList.drop 112 = dktX3_account_4 := dk_seg dksX3_account_3 24 rfl rfl
theorem dksX3_account_5 : cX3_account.data.toList.drop 134 = dktX3_account_5 := dk_seg dksX3_account_4 22 rfl rfl
theorem dX3_account_0 : decode cX3_account 0 = .ok (.aload_n 0, 1) := dk_42 (dk_at dksX3_account_0 0 rfl rfl)
theorem dX3_account_1 : decode cX3_account 1 = .ok (.iconst 0, 1) := dk_3 (dk_at dksX3_account_0 1 rfl rfl)
theorem dX3_account_2 : decode cX3_account 2 = .ok (.putfield 53, 3) := dk_181 0 53 (dk_at dksX3_account_0 2 rfl rfl)
theorem dX3_account_5 : decode cX3_account 5 = .ok (.iload_n 1, 1) := dk_27 (dk_at dksX3_account_0 5 rfl rfl)
theorem dX3_account_6 : decode cX3_account 6 = .ok (.tableswitch 126 0 10 #[58, 65, 72, 77, 82, 88, 95, 102, 109, 116, 121], 58) := by decide +kernel
theorem dX3_account_64 : decode cX3_account 64 = .ok (.aload_n 0, 1) := dk_42 (dk_at dksX3_account_2 0 rfl rfl)
theorem dX3_account_65 : decode cX3_account 65 = .ok (.getfield 7, 3) := dk_180 0 7 (dk_at dksX3_account_2 1 rfl rfl)
theorem dX3_account_68 : decode cX3_account 68 = .ok (.iconst 0, 1) := dk_3 (dk_at dksX3_account_2 4 rfl rfl)
theorem dX3_account_69 : decode cX3_account 69 = .ok (.iaload, 1) := dk_46 (dk_at dksX3_account_2 5 rfl rfl)
theorem dX3_account_70 : decode cX3_account 70 = .ok (.ireturn, 1) := dk_172 (dk_at dksX3_account_2 6 rfl rfl)
theorem dX3_account_71 : decode cX3_account 71 = .ok (.aload_n 0, 1) := dk_42 (dk_at dksX3_account_2 7 rfl rfl)
theorem dX3_account_72 : decode cX3_account 72 = .ok (.getfield 7, 3) := dk_180 0 7 (dk_at dksX3_account_2 8 rfl rfl)
theorem dX3_account_75 : decode cX3_account 75 = .ok (.iconst 1, 1) := dk_4 (dk_at dksX3_account_2 11 rfl rfl)
theorem dX3_account_76 : decode cX3_account 76 = .ok (.iaload, 1) := dk_46 (dk_at dksX3_account_2 12 rfl rfl)
theorem dX3_account_77 : decode cX3_account 77 = .ok (.ireturn, 1) := dk_172 (dk_at dksX3_account_2 13 rfl rfl)
theorem dX3_account_78 : decode cX3_account 78 = .ok (.aload_n 0, 1) := dk_42 (dk_at dksX3_account_2 14 rfl rfl)
theorem dX3_account_79 : decode cX3_account 79 = .ok (.invokevirtual 216, 3) := dk_182 0 216 (dk_at dksX3_account_2 15 rfl rfl)
theorem dX3_account_82 : decode cX3_account 82 = .ok (.ireturn, 1) := dk_172 (dk_at dksX3_account_2 18 rfl rfl)
theorem dX3_account_83 : decode cX3_account 83 = .ok (.aload_n 0, 1) := dk_42 (dk_at dksX3_account_2 19 rfl rfl)
theorem dX3_account_84 : decode cX3_account 84 = .ok (.invokevirtual 219, 3) := dk_182 0 219 (dk_at dksX3_account_2 20 rfl rfl)
theorem dX3_account_87 : decode cX3_account 87 = .ok (.ireturn, 1) := dk_172 (dk_at dksX3_account_2 23 rfl rfl)
theorem dX3_account_88 : decode cX3_account 88 = .ok (.aload_n 0, 1) := dk_42 (dk_at dksX3_account_3 0 rfl rfl)
theorem dX3_account_89 : decode cX3_account 89 = .ok (.iconst (-1), 1) := dk_2 (dk_at dksX3_account_3 1 rfl rfl)
theorem dX3_account_90 : decode cX3_account 90 = .ok (.invokevirtual 113, 3) := dk_182 0 113 (dk_at dksX3_account_3 2 rfl rfl)
theorem dX3_account_93 : decode cX3_account 93 = .ok (.ireturn, 1) := dk_172 (dk_at dksX3_account_3 5 rfl rfl)
theorem dX3_account_94 : decode cX3_account 94 = .ok (.aload_n 0, 1) := dk_42 (dk_at dksX3_account_3 6 rfl rfl)
theorem dX3_account_95 : decode cX3_account 95 = .ok (.getfield 7, 3) := dk_180 0 7 (dk_at dksX3_account_3 7 rfl rfl)
theorem dX3_account_98 : decode cX3_account 98 = .ok (.iconst 2, 1) := dk_5 (dk_at dksX3_account_3 10 rfl rfl)
theorem dX3_account_99 : decode cX3_account 99 = .ok (.iaload, 1) := dk_46 (dk_at dksX3_account_3 11 rfl rfl)
theorem dX3_account_100 : decode cX3_account 100 = .ok (.ireturn, 1) := dk_172 (dk_at dksX3_account_3 12 rfl rfl)
theorem dX3_account_101 : decode cX3_account 101 = .ok (.aload_n 0, 1) := dk_42 (dk_at dksX3_account_3 13 rfl rfl)
theorem dX3_account_102 : decode cX3_account 102 = .ok (.getfield 7, 3) := dk_180 0 7 (dk_at dksX3_account_3 14 rfl rfl)
theorem dX3_account_105 : decode cX3_account 105 = .ok (.iconst 3, 1) := dk_6 (dk_at dksX3_account_3 17 rfl rfl)
theorem dX3_account_106 : decode cX3_account 106 = .ok (.iaload, 1) := dk_46 (dk_at dksX3_account_3 18 rfl rfl)
theorem dX3_account_107 : decode cX3_account 107 = .ok (.ireturn, 1) := dk_172 (dk_at dksX3_account_3 19 rfl rfl)
theorem dX3_account_108 : decode cX3_account 108 = .ok (.aload_n 0, 1) := dk_42 (dk_at dksX3_account_3 20 rfl rfl)
theorem dX3_account_109 : decode cX3_account 109 = .ok (.getfield 7, 3) := dk_180 0 7 (dk_at dksX3_account_3 21 rfl rfl)
theorem dX3_account_112 : decode cX3_account 112 = .ok (.iconst 4, 1) := dk_7 (dk_at dksX3_account_4 0 rfl rfl)
theorem dX3_account_113 : decode cX3_account 113 = .ok (.iaload, 1) := dk_46 (dk_at dksX3_account_4 1 rfl rfl)
theorem dX3_account_114 : decode cX3_account 114 = .ok (.ireturn, 1) := dk_172 (dk_at dksX3_account_4 2 rfl rfl)
theorem dX3_account_115 : decode cX3_account 115 = .ok (.aload_n 0, 1) := dk_42 (dk_at dksX3_account_4 3 rfl rfl)
theorem dX3_account_116 : decode cX3_account 116 = .ok (.getfield 7, 3) := dk_180 0 7 (dk_at dksX3_account_4 4 rfl rfl)
theorem dX3_account_119 : decode cX3_account 119 = .ok (.iconst 5, 1) := dk_8 (dk_at dksX3_account_4 7 rfl rfl)
theorem dX3_account_120 : decode cX3_account 120 = .ok (.iaload, 1) := dk_46 (dk_at dksX3_account_4 8 rfl rfl)
theorem dX3_account_121 : decode cX3_account 121 = .ok (.ireturn, 1) := dk_172 (dk_at dksX3_account_4 9 rfl rfl)
theorem dX3_account_122 : decode cX3_account 122 = .ok (.aload_n 0, 1) := dk_42 (dk_at dksX3_account_4 10 rfl rfl)
theorem dX3_account_123 : decode cX3_account 123 = .ok (.getfield 222, 3) := dk_180 0 222 (dk_at dksX3_account_4 11 rfl rfl)
theorem dX3_account_126 : decode cX3_account 126 = .ok (.ireturn, 1) := dk_172 (dk_at dksX3_account_4 14 rfl rfl)
theorem dX3_account_127 : decode cX3_account 127 = .ok (.aload_n 0, 1) := dk_42 (dk_at dksX3_account_4 15 rfl rfl)
theorem dX3_account_128 : decode cX3_account 128 = .ok (.getfield 56, 3) := dk_180 0 56 (dk_at dksX3_account_4 16 rfl rfl)
theorem dX3_account_131 : decode cX3_account 131 = .ok (.ireturn, 1) := dk_172 (dk_at dksX3_account_4 19 rfl rfl)
theorem dX3_account_132 : decode cX3_account 132 = .ok (.aload_n 0, 1) := dk_42 (dk_at dksX3_account_4 20 rfl rfl)
theorem dX3_account_133 : decode cX3_account 133 = .ok (.iconst 1, 1) := dk_4 (dk_at dksX3_account_4 21 rfl rfl)
theorem dX3_account_134 : decode cX3_account 134 = .ok (.invokevirtual 69, 3) := dk_182 0 69 (dk_at dksX3_account_5 0 rfl rfl)
theorem dX3_account_137 : decode cX3_account 137 = .ok (.ireturn, 1) := dk_172 (dk_at dksX3_account_5 3 rfl rfl)
abbrev cX3_allWeights : ByteArray := prog_14_method_77_code
def yX3_allWeights : MethodName := ⟨RX3, "allWeights", "()I"⟩
def dkwX3_allWeights_1 : List UInt8 := [96, 60, 132, 2, 1, 167, 255, 231, 27, 172]
abbrev dktX3_allWeights_1 : List UInt8 := dkwX3_allWeights_1 ++ []
def dkwX3_allWeights_0 : List UInt8 := [3, 60, 3, 61, 28, 42, 180, 0, 7, 3, 46, 162, 0, 21, 27, 42, 180, 0, 7, 16, 45, 28, 96, 46]
abbrev dktX3_allWeights_0 : List UInt8 := dkwX3_allWeights_0 ++ dktX3_allWeights_1
theorem dksX3_allWeights_0 : cX3_allWeights.data.toList.drop 0 = dktX3_allWeights_0 := by decide +kernel
theorem dksX3_allWeights_1 : cX3_allWeights.data.toList.drop 24 = dktX3_allWeights_1 := dk_seg dksX3_allWeights_0 24 rfl rfl
theorem dX3_allWeights_0 : decode cX3_allWeights 0 = .ok (.iconst 0, 1) := dk_3 (dk_at dksX3_allWeights_0 0 rfl rfl)
theorem dX3_allWeights_1 : decode cX3_allWeights 1 = .ok (.istore_n 1, 1) := dk_60 (dk_at dksX3_allWeights_0 1 rfl rfl)
theorem dX3_allWeights_2 : decode cX3_allWeights 2 = .ok (.iconst 0, 1) := dk_3 (dk_at dksX3_allWeights_0 2 rfl rfl)
theorem dX3_allWeights_3 : decode cX3_allWeights 3 = .ok (.istore_n 2, 1) := dk_61 (dk_at dksX3_allWeights_0 3 rfl rfl)
theorem dX3_allWeights_4 : decode cX3_allWeights 4 = .ok (.iload_n 2, 1) := dk_28 (dk_at dksX3_allWeights_0 4 rfl rfl)
theorem dX3_allWeights_5 : decode cX3_allWeights 5 = .ok (.aload_n 0, 1) := dk_42 (dk_at dksX3_allWeights_0 5 rfl rfl)
theorem dX3_allWeights_6 : decode cX3_allWeights 6 = .ok (.getfield 7, 3) := dk_180 0 7 (dk_at dksX3_allWeights_0 6 rfl rfl)
theorem dX3_allWeights_9 : decode cX3_allWeights 9 = .ok (.iconst 0, 1) := dk_3 (dk_at dksX3_allWeights_0 9 rfl rfl)
theorem dX3_allWeights_10 : decode cX3_allWeights 10 = .ok (.iaload, 1) := dk_46 (dk_at dksX3_allWeights_0 10 rfl rfl)
theorem dX3_allWeights_11 : decode cX3_allWeights 11 = .ok (.if_icmp .ge 21, 3) := dk_162 0 21 (dk_at dksX3_allWeights_0 11 rfl rfl)
theorem dX3_allWeights_14 : decode cX3_allWeights 14 = .ok (.iload_n 1, 1) := dk_27 (dk_at dksX3_allWeights_0 14 rfl rfl)
theorem dX3_allWeights_15 : decode cX3_allWeights 15 = .ok (.aload_n 0, 1) := dk_42 (dk_at dksX3_allWeights_0 15 rfl rfl)
theorem dX3_allWeights_16 : decode cX3_allWeights 16 = .ok (.getfield 7, 3) := dk_180 0 7 (dk_at dksX3_allWeights_0 16 rfl rfl)
theorem dX3_allWeights_19 : decode cX3_allWeights 19 = .ok (.bipush 45, 2) := dk_16 45 (dk_at dksX3_allWeights_0 19 rfl rfl)
theorem dX3_allWeights_21 : decode cX3_allWeights 21 = .ok (.iload_n 2, 1) := dk_28 (dk_at dksX3_allWeights_0 21 rfl rfl)
theorem dX3_allWeights_22 : decode cX3_allWeights 22 = .ok (.iadd, 1) := dk_96 (dk_at dksX3_allWeights_0 22 rfl rfl)
theorem dX3_allWeights_23 : decode cX3_allWeights 23 = .ok (.iaload, 1) := dk_46 (dk_at dksX3_allWeights_0 23 rfl rfl)
theorem dX3_allWeights_24 : decode cX3_allWeights 24 = .ok (.iadd, 1) := dk_96 (dk_at dksX3_allWeights_1 0 rfl rfl)
theorem dX3_allWeights_25 : decode cX3_allWeights 25 = .ok (.istore_n 1, 1) := dk_60 (dk_at dksX3_allWeights_1 1 rfl rfl)
theorem dX3_allWeights_26 : decode cX3_allWeights 26 = .ok (.iinc 2 1, 3) := dk_132 2 1 (dk_at dksX3_allWeights_1 2 rfl rfl)
theorem dX3_allWeights_29 : decode cX3_allWeights 29 = .ok (.goto (-25), 3) := dk_167 255 231 (dk_at dksX3_allWeights_1 5 rfl rfl)
theorem dX3_allWeights_32 : decode cX3_allWeights 32 = .ok (.iload_n 1, 1) := dk_27 (dk_at dksX3_allWeights_1 8 rfl rfl)
theorem dX3_allWeights_33 : decode cX3_allWeights 33 = .ok (.ireturn, 1) := dk_172 (dk_at dksX3_allWeights_1 9 rfl rfl)
abbrev cX3_emptyHuts : ByteArray := prog_14_method_78_code
def yX3_emptyHuts : MethodName := ⟨RX3, "emptyHuts", "()I"⟩
def dkwX3_emptyHuts_1 : List UInt8 := [167, 0, 4, 3, 96, 60, 132, 2, 1, 167, 255, 227, 27, 172]
abbrev dktX3_emptyHuts_1 : List UInt8 := dkwX3_emptyHuts_1 ++ []
def dkwX3_emptyHuts_0 : List UInt8 := [3, 60, 3, 61, 28, 42, 180, 0, 7, 4, 46, 162, 0, 25, 27, 42, 28, 182, 0, 113, 154, 0, 7, 4]
abbrev dktX3_emptyHuts_0 : List UInt8 := dkwX3_emptyHuts_0 ++ dktX3_emptyHuts_1
theorem dksX3_emptyHuts_0 : cX3_emptyHuts.data.toList.drop 0 = dktX3_emptyHuts_0 := by decide +kernel
theorem dksX3_emptyHuts_1 : cX3_emptyHuts.data.toList.drop 24 = dktX3_emptyHuts_1 := dk_seg dksX3_emptyHuts_0 24 rfl rfl
theorem dX3_emptyHuts_0 : decode cX3_emptyHuts 0 = .ok (.iconst 0, 1) := dk_3 (dk_at dksX3_emptyHuts_0 0 rfl rfl)
theorem dX3_emptyHuts_1 : decode cX3_emptyHuts 1 = .ok (.istore_n 1, 1) := dk_60 (dk_at dksX3_emptyHuts_0 1 rfl rfl)
theorem dX3_emptyHuts_2 : decode cX3_emptyHuts 2 = .ok (.iconst 0, 1) := dk_3 (dk_at dksX3_emptyHuts_0 2 rfl rfl)
theorem dX3_emptyHuts_3 : decode cX3_emptyHuts 3 = .ok (.istore_n 2, 1) := dk_61 (dk_at dksX3_emptyHuts_0 3 rfl rfl)
theorem dX3_emptyHuts_4 : decode cX3_emptyHuts 4 = .ok (.iload_n 2, 1) := dk_28 (dk_at dksX3_emptyHuts_0 4 rfl rfl)
theorem dX3_emptyHuts_5 : decode cX3_emptyHuts 5 = .ok (.aload_n 0, 1) := dk_42 (dk_at dksX3_emptyHuts_0 5 rfl rfl)
theorem dX3_emptyHuts_6 : decode cX3_emptyHuts 6 = .ok (.getfield 7, 3) := dk_180 0 7 (dk_at dksX3_emptyHuts_0 6 rfl rfl)
theorem dX3_emptyHuts_9 : decode cX3_emptyHuts 9 = .ok (.iconst 1, 1) := dk_4 (dk_at dksX3_emptyHuts_0 9 rfl rfl)
theorem dX3_emptyHuts_10 : decode cX3_emptyHuts 10 = .ok (.iaload, 1) := dk_46 (dk_at dksX3_emptyHuts_0 10 rfl rfl)
theorem dX3_emptyHuts_11 : decode cX3_emptyHuts 11 = .ok (.if_icmp .ge 25, 3) := dk_162 0 25 (dk_at dksX3_emptyHuts_0 11 rfl rfl)
theorem dX3_emptyHuts_14 : decode cX3_emptyHuts 14 = .ok (.iload_n 1, 1) := dk_27 (dk_at dksX3_emptyHuts_0 14 rfl rfl)
theorem dX3_emptyHuts_15 : decode cX3_emptyHuts 15 = .ok (.aload_n 0, 1) := dk_42 (dk_at dksX3_emptyHuts_0 15 rfl rfl)
theorem dX3_emptyHuts_16 : decode cX3_emptyHuts 16 = .ok (.iload_n 2, 1) := dk_28 (dk_at dksX3_emptyHuts_0 16 rfl rfl)
theorem dX3_emptyHuts_17 : decode cX3_emptyHuts 17 = .ok (.invokevirtual 113, 3) := dk_182 0 113 (dk_at dksX3_emptyHuts_0 17 rfl rfl)
theorem dX3_emptyHuts_20 : decode cX3_emptyHuts 20 = .ok (.ifCond .ne 7, 3) := dk_154 0 7 (dk_at dksX3_emptyHuts_0 20 rfl rfl)
theorem dX3_emptyHuts_23 : decode cX3_emptyHuts 23 = .ok (.iconst 1, 1) := dk_4 (dk_at dksX3_emptyHuts_0 23 rfl rfl)
theorem dX3_emptyHuts_24 : decode cX3_emptyHuts 24 = .ok (.goto 4, 3) := dk_167 0 4 (dk_at dksX3_emptyHuts_1 0 rfl rfl)
theorem dX3_emptyHuts_27 : decode cX3_emptyHuts 27 = .ok (.iconst 0, 1) := dk_3 (dk_at dksX3_emptyHuts_1 3 rfl rfl)
theorem dX3_emptyHuts_28 : decode cX3_emptyHuts 28 = .ok (.iadd, 1) := dk_96 (dk_at dksX3_emptyHuts_1 4 rfl rfl)
theorem dX3_emptyHuts_29 : decode cX3_emptyHuts 29 = .ok (.istore_n 1, 1) := dk_60 (dk_at dksX3_emptyHuts_1 5 rfl rfl)
theorem dX3_emptyHuts_30 : decode cX3_emptyHuts 30 = .ok (.iinc 2 1, 3) := dk_132 2 1 (dk_at dksX3_emptyHuts_1 6 rfl rfl)
theorem dX3_emptyHuts_33 : decode cX3_emptyHuts 33 = .ok (.goto (-29), 3) := dk_167 255 227 (dk_at dksX3_emptyHuts_1 9 rfl rfl)
theorem dX3_emptyHuts_36 : decode cX3_emptyHuts 36 = .ok (.iload_n 1, 1) := dk_27 (dk_at dksX3_emptyHuts_1 12 rfl rfl)
theorem dX3_emptyHuts_37 : decode cX3_emptyHuts 37 = .ok (.ireturn, 1) := dk_172 (dk_at dksX3_emptyHuts_1 13 rfl rfl)
abbrev cX3_meanDistance : ByteArray := prog_14_method_80_code
def yX3_meanDistance : MethodName := ⟨RX3, "meanDistance", "()D"⟩
def dkwX3_meanDistance_3 : List UInt8 := [135, 111, 175, 42, 4, 181, 0, 53, 14, 175]
abbrev dktX3_meanDistance_3 : List UInt8 := dkwX3_meanDistance_3 ++ []
def dkwX3_meanDistance_2 : List UInt8 := [29, 96, 46, 182, 0, 93, 96, 60, 132, 2, 1, 132, 3, 1, 167, 255, 207, 28, 158, 0, 9, 27, 135, 28]
abbrev dktX3_meanDistance_2 : List UInt8 := dkwX3_meanDistance_2 ++ dktX3_meanDistance_3
def dkwX3_meanDistance_1 : List UInt8 := [180, 0, 7, 16, 63, 29, 96, 46, 2, 160, 0, 6, 167, 0, 23, 27, 42, 29, 42, 180, 0, 7, 16, 63]
abbrev dktX3_meanDistance_1 : List UInt8 := dkwX3_meanDistance_1 ++ dktX3_meanDistance_2
def dkwX3_meanDistance_0 : List UInt8 := [42, 3, 181, 0, 53, 3, 60, 3, 61, 3, 62, 29, 42, 180, 0, 7, 3, 46, 162, 0, 45, 42]
abbrev dktX3_meanDistance_0 : List UInt8 := dkwX3_meanDistance_0 ++ dktX3_meanDistance_1
theorem dksX3_meanDistance_0 : cX3_meanDistance.data.toList.drop 0 = dktX3_meanDistance_0 := by decide +kernel
theorem dksX3_meanDistance_1 : cX3_meanDistance.data.toList.drop 22 = dktX3_meanDistance_1 := dk_seg dksX3_meanDistance_0 22 rfl rfl
theorem dksX3_meanDistance_2 : cX3_meanDistance.data.toList.drop 46 = dktX3_meanDistance_2 := dk_seg dksX3_meanDistance_1 24 rfl rfl
theorem dksX3_meanDistance_3 : cX3_meanDistance.data.toList.drop 70 = dktX3_meanDistance_3 := dk_seg dksX3_meanDistance_2 24 rfl rfl
theorem dX3_meanDistance_0 : decode cX3_meanDistance 0 = .ok (.aload_n 0, 1) := dk_42 (dk_at dksX3_meanDistance_0 0 rfl rfl)
theorem dX3_meanDistance_1 : decode cX3_meanDistance 1 = .ok (.iconst 0, 1) := dk_3 (dk_at dksX3_meanDistance_0 1 rfl rfl)
theorem dX3_meanDistance_2 : decode cX3_meanDistance 2 = .ok (.putfield 53, 3) := dk_181 0 53 (dk_at dksX3_meanDistance_0 2 rfl rfl)
theorem dX3_meanDistance_5 : decode cX3_meanDistance 5 = .ok (.iconst 0, 1) := dk_3 (dk_at dksX3_meanDistance_0 5 rfl rfl)
theorem dX3_meanDistance_6 : decode cX3_meanDistance 6 = .ok (.istore_n 1, 1) := dk_60 (dk_at dksX3_meanDistance_0 6 rfl rfl)
theorem dX3_meanDistance_7 : decode cX3_meanDistance 7 = .ok (.iconst 0, 1) := dk_3 (dk_at dksX3_meanDistance_0 7 rfl rfl)
theorem dX3_meanDistance_8 : decode cX3_meanDistance 8 = .ok (.istore_n 2, 1) := dk_61 (dk_at dksX3_meanDistance_0 8 rfl rfl)
theorem dX3_meanDistance_9 : decode cX3_meanDistance 9 = .ok (.iconst 0, 1) := dk_3 (dk_at dksX3_meanDistance_0 9 rfl rfl)
theorem dX3_meanDistance_10 : decode cX3_meanDistance 10 = .ok (.istore_n 3, 1) := dk_62 (dk_at dksX3_meanDistance_0 10 rfl rfl)
theorem dX3_meanDistance_11 : decode cX3_meanDistance 11 = .ok (.iload_n 3, 1) := dk_29 (dk_at dksX3_meanDistance_0 11 rfl rfl)
theorem dX3_meanDistance_12 : decode cX3_meanDistance 12 = .ok (.aload_n 0, 1) := dk_42 (dk_at dksX3_meanDistance_0 12 rfl rfl)
theorem dX3_meanDistance_13 : decode cX3_meanDistance 13 = .ok (.getfield 7, 3) := dk_180 0 7 (dk_at dksX3_meanDistance_0 13 rfl rfl)
theorem dX3_meanDistance_16 : decode cX3_meanDistance 16 = .ok (.iconst 0, 1) := dk_3 (dk_at dksX3_meanDistance_0 16 rfl rfl)
theorem dX3_meanDistance_17 : decode cX3_meanDistance 17 = .ok (.iaload, 1) := dk_46 (dk_at dksX3_meanDistance_0 17 rfl rfl)
theorem dX3_meanDistance_18 : decode cX3_meanDistance 18 = .ok (.if_icmp .ge 45, 3) := dk_162 0 45 (dk_at dksX3_meanDistance_0 18 rfl rfl)
theorem dX3_meanDistance_21 : decode cX3_meanDistance 21 = .ok (.aload_n 0, 1) := dk_42 (dk_at dksX3_meanDistance_0 21 rfl rfl)
theorem dX3_meanDistance_22 : decode cX3_meanDistance 22 = .ok (.getfield 7, 3) := dk_180 0 7 (dk_at dksX3_meanDistance_1 0 rfl rfl)
theorem dX3_meanDistance_25 : decode cX3_meanDistance 25 = .ok (.bipush 63, 2) := dk_16 63 (dk_at dksX3_meanDistance_1 3 rfl rfl)
theorem dX3_meanDistance_27 : decode cX3_meanDistance 27 = .ok (.iload_n 3, 1) := dk_29 (dk_at dksX3_meanDistance_1 5 rfl rfl)
theorem dX3_meanDistance_28 : decode cX3_meanDistance 28 = .ok (.iadd, 1) := dk_96 (dk_at dksX3_meanDistance_1 6 rfl rfl)
theorem dX3_meanDistance_29 : decode cX3_meanDistance 29 = .ok (.iaload, 1) := dk_46 (dk_at dksX3_meanDistance_1 7 rfl rfl)
theorem dX3_meanDistance_30 : decode cX3_meanDistance 30 = .ok (.iconst (-1), 1) := dk_2 (dk_at dksX3_meanDistance_1 8 rfl rfl)
theorem dX3_meanDistance_31 : decode cX3_meanDistance 31 = .ok (.if_icmp .ne 6, 3) := dk_160 0 6 (dk_at dksX3_meanDistance_1 9 rfl rfl)
theorem dX3_meanDistance_34 : decode cX3_meanDistance 34 = .ok (.goto 23, 3) := dk_167 0 23 (dk_at dksX3_meanDistance_1 12 rfl rfl)
theorem dX3_meanDistance_37 : decode cX3_meanDistance 37 = .ok (.iload_n 1, 1) := dk_27 (dk_at dksX3_meanDistance_1 15 rfl rfl)
theorem dX3_meanDistance_38 : decode cX3_meanDistance 38 = .ok (.aload_n 0, 1) := dk_42 (dk_at dksX3_meanDistance_1 16 rfl rfl)
theorem dX3_meanDistance_39 : decode cX3_meanDistance 39 = .ok (.iload_n 3, 1) := dk_29 (dk_at dksX3_meanDistance_1 17 rfl rfl)
theorem dX3_meanDistance_40 : decode cX3_meanDistance 40 = .ok (.aload_n 0, 1) := dk_42 (dk_at dksX3_meanDistance_1 18 rfl rfl)
theorem dX3_meanDistance_41 : decode cX3_meanDistance 41 = .ok (.getfield 7, 3) := dk_180 0 7 (dk_at dksX3_meanDistance_1 19 rfl rfl)
theorem dX3_meanDistance_44 : decode cX3_meanDistance 44 = .ok (.bipush 63, 2) := dk_16 63 (dk_at dksX3_meanDistance_1 22 rfl rfl)
theorem dX3_meanDistance_46 : decode cX3_meanDistance 46 = .ok (.iload_n 3, 1) := dk_29 (dk_at dksX3_meanDistance_2 0 rfl rfl)
theorem dX3_meanDistance_47 : decode cX3_meanDistance 47 = .ok (.iadd, 1) := dk_96 (dk_at dksX3_meanDistance_2 1 rfl rfl)
theorem dX3_meanDistance_48 : decode cX3_meanDistance 48 = .ok (.iaload, 1) := dk_46 (dk_at dksX3_meanDistance_2 2 rfl rfl)
theorem dX3_meanDistance_49 : decode cX3_meanDistance 49 = .ok (.invokevirtual 93, 3) := dk_182 0 93 (dk_at dksX3_meanDistance_2 3 rfl rfl)
theorem dX3_meanDistance_52 : decode cX3_meanDistance 52 = .ok (.iadd, 1) := dk_96 (dk_at dksX3_meanDistance_2 6 rfl rfl)
theorem dX3_meanDistance_53 : decode cX3_meanDistance 53 = .ok (.istore_n 1, 1) := dk_60 (dk_at dksX3_meanDistance_2 7 rfl rfl)
theorem dX3_meanDistance_54 : decode cX3_meanDistance 54 = .ok (.iinc 2 1, 3) := dk_132 2 1 (dk_at dksX3_meanDistance_2 8 rfl rfl)
theorem dX3_meanDistance_57 : decode cX3_meanDistance 57 = .ok (.iinc 3 1, 3) := dk_132 3 1 (dk_at dksX3_meanDistance_2 11 rfl rfl)
theorem dX3_meanDistance_60 : decode cX3_meanDistance 60 = .ok (.goto (-49), 3) := dk_167 255 207 (dk_at dksX3_meanDistance_2 14 rfl rfl)
theorem dX3_meanDistance_63 : decode cX3_meanDistance 63 = .ok (.iload_n 2, 1) := dk_28 (dk_at dksX3_meanDistance_2 17 rfl rfl)
theorem dX3_meanDistance_64 : decode cX3_meanDistance 64 = .ok (.ifCond .le 9, 3) := dk_158 0 9 (dk_at dksX3_meanDistance_2 18 rfl rfl)
theorem dX3_meanDistance_67 : decode cX3_meanDistance 67 = .ok (.iload_n 1, 1) := dk_27 (dk_at dksX3_meanDistance_2 21 rfl rfl)
theorem dX3_meanDistance_68 : decode cX3_meanDistance 68 = .ok (.i2d, 1) := dk_135 (dk_at dksX3_meanDistance_2 22 rfl rfl)
theorem dX3_meanDistance_69 : decode cX3_meanDistance 69 = .ok (.iload_n 2, 1) := dk_28 (dk_at dksX3_meanDistance_2 23 rfl rfl)
theorem dX3_meanDistance_70 : decode cX3_meanDistance 70 = .ok (.i2d, 1) := dk_135 (dk_at dksX3_meanDistance_3 0 rfl rfl)
theorem dX3_meanDistance_71 : decode cX3_meanDistance 71 = .ok (.ddiv, 1) := dk_111 (dk_at dksX3_meanDistance_3 1 rfl rfl)
theorem dX3_meanDistance_72 : decode cX3_meanDistance 72 = .ok (.dreturn, 1) := dk_175 (dk_at dksX3_meanDistance_3 2 rfl rfl)
theorem dX3_meanDistance_73 : decode cX3_meanDistance 73 = .ok (.aload_n 0, 1) := dk_42 (dk_at dksX3_meanDistance_3 3 rfl rfl)
theorem dX3_meanDistance_74 : decode cX3_meanDistance 74 = .ok (.iconst 1, 1) := dk_4 (dk_at dksX3_meanDistance_3 4 rfl rfl)
theorem dX3_meanDistance_75 : decode cX3_meanDistance 75 = .ok (.putfield 53, 3) := dk_181 0 53 (dk_at dksX3_meanDistance_3 5 rfl rfl)
theorem dX3_meanDistance_78 : decode cX3_meanDistance 78 = .ok (.dconst 0, 1) := dk_14 (dk_at dksX3_meanDistance_3 8 rfl rfl)
theorem dX3_meanDistance_79 : decode cX3_meanDistance 79 = .ok (.dreturn, 1) := dk_175 (dk_at dksX3_meanDistance_3 9 rfl rfl)
abbrev cX3_strayShare : ByteArray := prog_14_method_81_code
def yX3_strayShare : MethodName := ⟨RX3, "strayShare", "()F"⟩
def dkwX3_strayShare_1 : List UInt8 := [158, 0, 7, 11, 167, 0, 16, 42, 182, 0, 194, 134, 42, 180, 0, 7, 3, 46, 134, 110, 174]
abbrev dktX3_strayShare_1 : List UInt8 := dkwX3_strayShare_1 ++ []
def dkwX3_strayShare_0 : List UInt8 := [42, 42, 180, 0, 7, 3, 46, 154, 0, 7, 4, 167, 0, 4, 3, 181, 0, 53, 42, 180, 0, 53]
abbrev dktX3_strayShare_0 : List UInt8 := dkwX3_strayShare_0 ++ dktX3_strayShare_1
theorem dksX3_strayShare_0 : cX3_strayShare.data.toList.drop 0 = dktX3_strayShare_0 := by decide +kernel
theorem dksX3_strayShare_1 : cX3_strayShare.data.toList.drop 22 = dktX3_strayShare_1 := dk_seg dksX3_strayShare_0 22 rfl rfl
theorem dX3_strayShare_0 : decode cX3_strayShare 0 = .ok (.aload_n 0, 1) := dk_42 (dk_at dksX3_strayShare_0 0 rfl rfl)
theorem dX3_strayShare_1 : decode cX3_strayShare 1 = .ok (.aload_n 0, 1) := dk_42 (dk_at dksX3_strayShare_0 1 rfl rfl)
theorem dX3_strayShare_2 : decode cX3_strayShare 2 = .ok (.getfield 7, 3) := dk_180 0 7 (dk_at dksX3_strayShare_0 2 rfl rfl)
theorem dX3_strayShare_5 : decode cX3_strayShare 5 = .ok (.iconst 0, 1) := dk_3 (dk_at dksX3_strayShare_0 5 rfl rfl)
theorem dX3_strayShare_6 : decode cX3_strayShare 6 = .ok (.iaload, 1) := dk_46 (dk_at dksX3_strayShare_0 6 rfl rfl)
theorem dX3_strayShare_7 : decode cX3_strayShare 7 = .ok (.ifCond .ne 7, 3) := dk_154 0 7 (dk_at dksX3_strayShare_0 7 rfl rfl)
theorem dX3_strayShare_10 : decode cX3_strayShare 10 = .ok (.iconst 1, 1) := dk_4 (dk_at dksX3_strayShare_0 10 rfl rfl)
theorem dX3_strayShare_11 : decode cX3_strayShare 11 = .ok (.goto 4, 3) := dk_167 0 4 (dk_at dksX3_strayShare_0 11 rfl rfl)
theorem dX3_strayShare_14 : decode cX3_strayShare 14 = .ok (.iconst 0, 1) := dk_3 (dk_at dksX3_strayShare_0 14 rfl rfl)
theorem dX3_strayShare_15 : decode cX3_strayShare 15 = .ok (.putfield 53, 3) := dk_181 0 53 (dk_at dksX3_strayShare_0 15 rfl rfl)
theorem dX3_strayShare_18 : decode cX3_strayShare 18 = .ok (.aload_n 0, 1) := dk_42 (dk_at dksX3_strayShare_0 18 rfl rfl)
theorem dX3_strayShare_19 : decode cX3_strayShare 19 = .ok (.getfield 53, 3) := dk_180 0 53 (dk_at dksX3_strayShare_0 19 rfl rfl)
theorem dX3_strayShare_22 : decode cX3_strayShare 22 = .ok (.ifCond .le 7, 3) := dk_158 0 7 (dk_at dksX3_strayShare_1 0 rfl rfl)
theorem dX3_strayShare_25 : decode cX3_strayShare 25 = .ok (.fconst 0, 1) := dk_11 (dk_at dksX3_strayShare_1 3 rfl rfl)
theorem dX3_strayShare_26 : decode cX3_strayShare 26 = .ok (.goto 16, 3) := dk_167 0 16 (dk_at dksX3_strayShare_1 4 rfl rfl)
theorem dX3_strayShare_29 : decode cX3_strayShare 29 = .ok (.aload_n 0, 1) := dk_42 (dk_at dksX3_strayShare_1 7 rfl rfl)
theorem dX3_strayShare_30 : decode cX3_strayShare 30 = .ok (.invokevirtual 194, 3) := dk_182 0 194 (dk_at dksX3_strayShare_1 8 rfl rfl)
theorem dX3_strayShare_33 : decode cX3_strayShare 33 = .ok (.i2f, 1) := dk_134 (dk_at dksX3_strayShare_1 11 rfl rfl)
theorem dX3_strayShare_34 : decode cX3_strayShare 34 = .ok (.aload_n 0, 1) := dk_42 (dk_at dksX3_strayShare_1 12 rfl rfl)
theorem dX3_strayShare_35 : decode cX3_strayShare 35 = .ok (.getfield 7, 3) := dk_180 0 7 (dk_at dksX3_strayShare_1 13 rfl rfl)
theorem dX3_strayShare_38 : decode cX3_strayShare 38 = .ok (.iconst 0, 1) := dk_3 (dk_at dksX3_strayShare_1 16 rfl rfl)
theorem dX3_strayShare_39 : decode cX3_strayShare 39 = .ok (.iaload, 1) := dk_46 (dk_at dksX3_strayShare_1 17 rfl rfl)
theorem dX3_strayShare_40 : decode cX3_strayShare 40 = .ok (.i2f, 1) := dk_134 (dk_at dksX3_strayShare_1 18 rfl rfl)
theorem dX3_strayShare_41 : decode cX3_strayShare 41 = .ok (.fdiv, 1) := dk_110 (dk_at dksX3_strayShare_1 19 rfl rfl)
theorem dX3_strayShare_42 : decode cX3_strayShare 42 = .ok (.freturn, 1) := dk_174 (dk_at dksX3_strayShare_1 20 rfl rfl)
abbrev cX3_append : ByteArray := prog_14_method_82_code
def yX3_append : MethodName := ⟨RX3, "append", "(I)I"⟩
def dkwX3_append_5 : List UInt8 := [180, 0, 222, 4, 96, 181, 0, 222, 132, 3, 248, 167, 255, 211, 42, 180, 0, 222, 172]
abbrev dktX3_append_5 : List UInt8 := dkwX3_append_5 ++ []
def dkwX3_append_4 : List UInt8 := [126, 54, 4, 21, 4, 154, 0, 6, 167, 0, 24, 42, 180, 0, 28, 42, 180, 0, 222, 21, 4, 79, 42, 89]
abbrev dktX3_append_4 : List UInt8 := dkwX3_append_4 ++ dktX3_append_5
def dkwX3_append_3 : List UInt8 := [16, 60, 164, 0, 9, 42, 5, 182, 0, 69, 172, 16, 24, 62, 29, 155, 0, 47, 27, 29, 124, 17, 0, 255]
abbrev dktX3_append_3 : List UInt8 := dkwX3_append_3 ++ dktX3_append_4
def dkwX3_append_2 : List UInt8 := [21, 4, 154, 0, 7, 3, 167, 0, 4, 4, 96, 61, 132, 3, 248, 167, 255, 204, 42, 180, 0, 222, 28, 96]
abbrev dktX3_append_2 : List UInt8 := dkwX3_append_2 ++ dktX3_append_3
def dkwX3_append_1 : List UInt8 := [21, 4, 153, 0, 21, 21, 4, 16, 32, 16, 126, 184, 0, 78, 154, 0, 9, 42, 4, 182, 0, 69, 172, 28]
abbrev dktX3_append_1 : List UInt8 := dkwX3_append_1 ++ dktX3_append_2
def dkwX3_append_0 : List UInt8 := [42, 3, 181, 0, 53, 3, 61, 16, 24, 62, 29, 155, 0, 54, 27, 29, 124, 17, 0, 255, 126, 54, 4]
abbrev dktX3_append_0 : List UInt8 := dkwX3_append_0 ++ dktX3_append_1
theorem dksX3_append_0 : cX3_append.data.toList.drop 0 = dktX3_append_0 := by decide +kernel
theorem dksX3_append_1 : cX3_append.data.toList.drop 23 = dktX3_append_1 := dk_seg dksX3_append_0 23 rfl rfl
theorem dksX3_append_2 : cX3_append.data.toList.drop 47 = dktX3_append_2 := dk_seg dksX3_append_1 24 rfl rfl
theorem dksX3_append_3 : cX3_append.data.toList.drop 71 = dktX3_append_3 := dk_seg dksX3_append_2 24 rfl rfl
theorem dksX3_append_4 : cX3_append.data.toList.drop 95 = dktX3_append_4 := dk_seg dksX3_append_3 24 rfl rfl
theorem dksX3_append_5 : cX3_append.data.toList.drop 119 = dktX3_append_5 := dk_seg dksX3_append_4 24 rfl rfl
theorem dX3_append_0 : decode cX3_append 0 = .ok (.aload_n 0, 1) := dk_42 (dk_at dksX3_append_0 0 rfl rfl)
theorem dX3_append_1 : decode cX3_append 1 = .ok (.iconst 0, 1) := dk_3 (dk_at dksX3_append_0 1 rfl rfl)
theorem dX3_append_2 : decode cX3_append 2 = .ok (.putfield 53, 3) := dk_181 0 53 (dk_at dksX3_append_0 2 rfl rfl)
theorem dX3_append_5 : decode cX3_append 5 = .ok (.iconst 0, 1) := dk_3 (dk_at dksX3_append_0 5 rfl rfl)
theorem dX3_append_6 : decode cX3_append 6 = .ok (.istore_n 2, 1) := dk_61 (dk_at dksX3_append_0 6 rfl rfl)
theorem dX3_append_7 : decode cX3_append 7 = .ok (.bipush 24, 2) := dk_16 24 (dk_at dksX3_append_0 7 rfl rfl)
theorem dX3_append_9 : decode cX3_append 9 = .ok (.istore_n 3, 1) := dk_62 (dk_at dksX3_append_0 9 rfl rfl)
theorem dX3_append_10 : decode cX3_append 10 = .ok (.iload_n 3, 1) := dk_29 (dk_at dksX3_append_0 10 rfl rfl)
theorem dX3_append_11 : decode cX3_append 11 = .ok (.ifCond .lt 54, 3) := dk_155 0 54 (dk_at dksX3_append_0 11 rfl rfl)
theorem dX3_append_14 : decode cX3_append 14 = .ok (.iload_n 1, 1) := dk_27 (dk_at dksX3_append_0 14 rfl rfl)
theorem dX3_append_15 : decode cX3_append 15 = .ok (.iload_n 3, 1) := dk_29 (dk_at dksX3_append_0 15 rfl rfl)
theorem dX3_append_16 : decode cX3_append 16 = .ok (.iushr, 1) := dk_124 (dk_at dksX3_append_0 16 rfl rfl)
theorem dX3_append_17 : decode cX3_append 17 = .ok (.sipush 255, 3) := dk_17 0 255 (dk_at dksX3_append_0 17 rfl rfl)
theorem dX3_append_20 : decode cX3_append 20 = .ok (.iand, 1) := dk_126 (dk_at dksX3_append_0 20 rfl rfl)
theorem dX3_append_21 : decode cX3_append 21 = .ok (.istore 4, 2) := dk_54 4 (dk_at dksX3_append_0 21 rfl rfl)
theorem dX3_append_23 : decode cX3_append 23 = .ok (.iload 4, 2) := dk_21 4 (dk_at dksX3_append_1 0 rfl rfl)
theorem dX3_append_25 : decode cX3_append 25 = .ok (.ifCond .eq 21, 3) := dk_153 0 21 (dk_at dksX3_append_1 2 rfl rfl)
theorem dX3_append_28 : decode cX3_append 28 = .ok (.iload 4, 2) := dk_21 4 (dk_at dksX3_append_1 5 rfl rfl)
theorem dX3_append_30 : decode cX3_append 30 = .ok (.bipush 32, 2) := dk_16 32 (dk_at dksX3_append_1 7 rfl rfl)
theorem dX3_append_32 : decode cX3_append 32 = .ok (.bipush 126, 2) := dk_16 126 (dk_at dksX3_append_1 9 rfl rfl)
theorem dX3_append_34 : decode cX3_append 34 = .ok (.invokestatic 78, 3) := dk_184 0 78 (dk_at dksX3_append_1 11 rfl rfl)
theorem dX3_append_37 : decode cX3_append 37 = .ok (.ifCond .ne 9, 3) := dk_154 0 9 (dk_at dksX3_append_1 14 rfl rfl)
theorem dX3_append_40 : decode cX3_append 40 = .ok (.aload_n 0, 1) := dk_42 (dk_at dksX3_append_1 17 rfl rfl)
theorem dX3_append_41 : decode cX3_append 41 = .ok (.iconst 1, 1) := dk_4 (dk_at dksX3_append_1 18 rfl rfl)
theorem dX3_append_42 : decode cX3_append 42 = .ok (.invokevirtual 69, 3) := dk_182 0 69 (dk_at dksX3_append_1 19 rfl rfl)
theorem dX3_append_45 : decode cX3_append 45 = .ok (.ireturn, 1) := dk_172 (dk_at dksX3_append_1 22 rfl rfl)
theorem dX3_append_46 : decode cX3_append 46 = .ok (.iload_n 2, 1) := dk_28 (dk_at dksX3_append_1 23 rfl rfl)
theorem dX3_append_47 : decode cX3_append 47 = .ok (.iload 4, 2) := dk_21 4 (dk_at dksX3_append_2 0 rfl rfl)
theorem dX3_append_49 : decode cX3_append 49 = .ok (.ifCond .ne 7, 3) := dk_154 0 7 (dk_at dksX3_append_2 2 rfl rfl)
theorem dX3_append_52 : decode cX3_append 52 = .ok (.iconst 0, 1) := dk_3 (dk_at dksX3_append_2 5 rfl rfl)
theorem dX3_append_53 : decode cX3_append 53 = .ok (.goto 4, 3) := dk_167 0 4 (dk_at dksX3_append_2 6 rfl rfl)
theorem dX3_append_56 : decode cX3_append 56 = .ok (.iconst 1, 1) := dk_4 (dk_at dksX3_append_2 9 rfl rfl)
theorem dX3_append_57 : decode cX3_append 57 = .ok (.iadd, 1) := dk_96 (dk_at dksX3_append_2 10 rfl rfl)
theorem dX3_append_58 : decode cX3_append 58 = .ok (.istore_n 2, 1) := dk_61 (dk_at dksX3_append_2 11 rfl rfl)
theorem dX3_append_59 : decode cX3_append 59 = .ok (.iinc 3 (-8), 3) := dk_132 3 248 (dk_at dksX3_append_2 12 rfl rfl)
theorem dX3_append_62 : decode cX3_append 62 = .ok (.goto (-52), 3) := dk_167 255 204 (dk_at dksX3_append_2 15 rfl rfl)
theorem dX3_append_65 : decode cX3_append 65 = .ok (.aload_n 0, 1) := dk_42 (dk_at dksX3_append_2 18 rfl rfl)
theorem dX3_append_66 : decode cX3_append 66 = .ok (.getfield 222, 3) := dk_180 0 222 (dk_at dksX3_append_2 19 rfl rfl)
theorem dX3_append_69 : decode cX3_append 69 = .ok (.iload_n 2, 1) := dk_28 (dk_at dksX3_append_2 22 rfl rfl)
theorem dX3_append_70 : decode cX3_append 70 = .ok (.iadd, 1) := dk_96 (dk_at dksX3_append_2 23 rfl rfl)
theorem dX3_append_71 : decode cX3_append 71 = .ok (.bipush 60, 2) := dk_16 60 (dk_at dksX3_append_3 0 rfl rfl)
theorem dX3_append_73 : decode cX3_append 73 = .ok (.if_icmp .le 9, 3) := dk_164 0 9 (dk_at dksX3_append_3 2 rfl rfl)
theorem dX3_append_76 : decode cX3_append 76 = .ok (.aload_n 0, 1) := dk_42 (dk_at dksX3_append_3 5 rfl rfl)
theorem dX3_append_77 : decode cX3_append 77 = .ok (.iconst 2, 1) := dk_5 (dk_at dksX3_append_3 6 rfl rfl)
theorem dX3_append_78 : decode cX3_append 78 = .ok (.invokevirtual 69, 3) := dk_182 0 69 (dk_at dksX3_append_3 7 rfl rfl)
theorem dX3_append_81 : decode cX3_append 81 = .ok (.ireturn, 1) := dk_172 (dk_at dksX3_append_3 10 rfl rfl)
theorem dX3_append_82 : decode cX3_append 82 = .ok (.bipush 24, 2) := dk_16 24 (dk_at dksX3_append_3 11 rfl rfl)
theorem dX3_append_84 : decode cX3_append 84 = .ok (.istore_n 3, 1) := dk_62 (dk_at dksX3_append_3 13 rfl rfl)
theorem dX3_append_85 : decode cX3_append 85 = .ok (.iload_n 3, 1) := dk_29 (dk_at dksX3_append_3 14 rfl rfl)
theorem dX3_append_86 : decode cX3_append 86 = .ok (.ifCond .lt 47, 3) := dk_155 0 47 (dk_at dksX3_append_3 15 rfl rfl)
theorem dX3_append_89 : decode cX3_append 89 = .ok (.iload_n 1, 1) := dk_27 (dk_at dksX3_append_3 18 rfl rfl)
theorem dX3_append_90 : decode cX3_append 90 = .ok (.iload_n 3, 1) := dk_29 (dk_at dksX3_append_3 19 rfl rfl)
theorem dX3_append_91 : decode cX3_append 91 = .ok (.iushr, 1) := dk_124 (dk_at dksX3_append_3 20 rfl rfl)
theorem dX3_append_92 : decode cX3_append 92 = .ok (.sipush 255, 3) := dk_17 0 255 (dk_at dksX3_append_3 21 rfl rfl)
theorem dX3_append_95 : decode cX3_append 95 = .ok (.iand, 1) := dk_126 (dk_at dksX3_append_4 0 rfl rfl)
theorem dX3_append_96 : decode cX3_append 96 = .ok (.istore 4, 2) := dk_54 4 (dk_at dksX3_append_4 1 rfl rfl)
theorem dX3_append_98 : decode cX3_append 98 = .ok (.iload 4, 2) := dk_21 4 (dk_at dksX3_append_4 3 rfl rfl)
theorem dX3_append_100 : decode cX3_append 100 = .ok (.ifCond .ne 6, 3) := dk_154 0 6 (dk_at dksX3_append_4 5 rfl rfl)
theorem dX3_append_103 : decode cX3_append 103 = .ok (.goto 24, 3) := dk_167 0 24 (dk_at dksX3_append_4 8 rfl rfl)
theorem dX3_append_106 : decode cX3_append 106 = .ok (.aload_n 0, 1) := dk_42 (dk_at dksX3_append_4 11 rfl rfl)
theorem dX3_append_107 : decode cX3_append 107 = .ok (.getfield 28, 3) := dk_180 0 28 (dk_at dksX3_append_4 12 rfl rfl)
theorem dX3_append_110 : decode cX3_append 110 = .ok (.aload_n 0, 1) := dk_42 (dk_at dksX3_append_4 15 rfl rfl)
theorem dX3_append_111 : decode cX3_append 111 = .ok (.getfield 222, 3) := dk_180 0 222 (dk_at dksX3_append_4 16 rfl rfl)
theorem dX3_append_114 : decode cX3_append 114 = .ok (.iload 4, 2) := dk_21 4 (dk_at dksX3_append_4 19 rfl rfl)
theorem dX3_append_116 : decode cX3_append 116 = .ok (.iastore, 1) := dk_79 (dk_at dksX3_append_4 21 rfl rfl)
theorem dX3_append_117 : decode cX3_append 117 = .ok (.aload_n 0, 1) := dk_42 (dk_at dksX3_append_4 22 rfl rfl)
theorem dX3_append_118 : decode cX3_append 118 = .ok (.dup, 1) := dk_89 (dk_at dksX3_append_4 23 rfl rfl)
theorem dX3_append_119 : decode cX3_append 119 = .ok (.getfield 222, 3) := dk_180 0 222 (dk_at dksX3_append_5 0 rfl rfl)
theorem dX3_append_122 : decode cX3_append 122 = .ok (.iconst 1, 1) := dk_4 (dk_at dksX3_append_5 3 rfl rfl)
theorem dX3_append_123 : decode cX3_append 123 = .ok (.iadd, 1) := dk_96 (dk_at dksX3_append_5 4 rfl rfl)
theorem dX3_append_124 : decode cX3_append 124 = .ok (.putfield 222, 3) := dk_181 0 222 (dk_at dksX3_append_5 5 rfl rfl)
theorem dX3_append_127 : decode cX3_append 127 = .ok (.iinc 3 (-8), 3) := dk_132 3 248 (dk_at dksX3_append_5 8 rfl rfl)
theorem dX3_append_130 : decode cX3_append 130 = .ok (.goto (-45), 3) := dk_167 255 211 (dk_at dksX3_append_5 11 rfl rfl)
theorem dX3_append_133 : decode cX3_append 133 = .ok (.aload_n 0, 1) := dk_42 (dk_at dksX3_append_5 14 rfl rfl)
theorem dX3_append_134 : decode cX3_append 134 = .ok (.getfield 222, 3) := dk_180 0 222 (dk_at dksX3_append_5 15 rfl rfl)
theorem dX3_append_137 : decode cX3_append 137 = .ok (.ireturn, 1) := dk_172 (dk_at dksX3_append_5 18 rfl rfl)
abbrev cX3_read : ByteArray := prog_14_method_89_code
def yX3_read : MethodName := ⟨RX3, "read", "()I"⟩
def dkwX3_read_7 : List UInt8 := [42, 5, 182, 0, 69, 172, 132, 1, 1, 167, 255, 188, 42, 42, 180, 0, 249, 182, 0, 65, 172]
abbrev dktX3_read_7 : List UInt8 := dkwX3_read_7 ++ []
def dkwX3_read_6 : List UInt8 := [180, 0, 13, 29, 46, 79, 132, 3, 1, 167, 255, 235, 42, 27, 181, 0, 47, 42, 28, 5, 182, 0, 155, 62]
abbrev dktX3_read_6 : List UInt8 := dkwX3_read_6 ++ dktX3_read_7
def dkwX3_read_5 : List UInt8 := [61, 28, 154, 0, 6, 167, 0, 47, 3, 62, 29, 16, 93, 162, 0, 21, 42, 180, 0, 7, 29, 42]
abbrev dktX3_read_5 : List UInt8 := dkwX3_read_5 ++ dktX3_read_6
def dkwX3_read_4 : List UInt8 := [181, 0, 43, 42, 4, 182, 0, 69, 172, 3, 60, 27, 42, 180, 0, 249, 162, 0, 66, 42, 27, 182, 1, 24]
abbrev dktX3_read_4 : List UInt8 := dkwX3_read_4 ++ dktX3_read_5
def dkwX3_read_3 : List UInt8 := [180, 0, 235, 154, 0, 14, 42, 180, 0, 225, 42, 180, 0, 228, 162, 0, 17, 42, 42, 180, 0, 225]
abbrev dktX3_read_3 : List UInt8 := dkwX3_read_3 ++ dktX3_read_4
def dkwX3_read_2 : List UInt8 := [16, 59, 160, 0, 20, 42, 89, 180, 0, 225, 4, 96, 181, 0, 225, 42, 182, 1, 21, 167, 255, 225, 42]
abbrev dktX3_read_2 : List UInt8 := dkwX3_read_2 ++ dktX3_read_3
def dkwX3_read_1 : List UInt8 := [181, 0, 249, 42, 3, 181, 0, 235, 42, 182, 1, 21, 42, 180, 0, 235, 154, 0, 30, 42, 3, 182, 0, 239]
abbrev dktX3_read_1 : List UInt8 := dkwX3_read_1 ++ dktX3_read_2
def dkwX3_read_0 : List UInt8 := [42, 182, 0, 149, 42, 3, 181, 0, 225, 42, 42, 180, 0, 222, 181, 0, 228, 42, 3, 181, 0, 222, 42, 3]
abbrev dktX3_read_0 : List UInt8 := dkwX3_read_0 ++ dktX3_read_1
theorem dksX3_read_0 : cX3_read.data.toList.drop 0 = dktX3_read_0 := by decide +kernel
theorem dksX3_read_1 : cX3_read.data.toList.drop 24 = dktX3_read_1 := dk_seg dksX3_read_0 24 rfl rfl
theorem dksX3_read_2 : cX3_read.data.toList.drop 48 = dktX3_read_2 := dk_seg dksX3_read_1 24 rfl rfl
theorem dksX3_read_3 : cX3_read.data.toList.drop 71 = dktX3_read_3 := dk_seg dksX3_read_2 23 rfl rfl
theorem dksX3_read_4 : cX3_read.data.toList.drop 93 = dktX3_read_4 := dk_seg dksX3_read_3 22 rfl rfl
theorem dksX3_read_5 : cX3_read.data.toList.drop 117 = dktX3_read_5 := dk_seg dksX3_read_4 24 rfl rfl
theorem dksX3_read_6 : cX3_read.data.toList.drop 139 = dktX3_read_6 := dk_seg dksX3_read_5 22 rfl rfl
theorem dksX3_read_7 : cX3_read.data.toList.drop 163 = dktX3_read_7 := dk_seg dksX3_read_6 24 rfl rfl
theorem dX3_read_0 : decode cX3_read 0 = .ok (.aload_n 0, 1) := dk_42 (dk_at dksX3_read_0 0 rfl rfl)
theorem dX3_read_1 : decode cX3_read 1 = .ok (.invokevirtual 149, 3) := dk_182 0 149 (dk_at dksX3_read_0 1 rfl rfl)
theorem dX3_read_4 : decode cX3_read 4 = .ok (.aload_n 0, 1) := dk_42 (dk_at dksX3_read_0 4 rfl rfl)
theorem dX3_read_5 : decode cX3_read 5 = .ok (.iconst 0, 1) := dk_3 (dk_at dksX3_read_0 5 rfl rfl)
theorem dX3_read_6 : decode cX3_read 6 = .ok (.putfield 225, 3) := dk_181 0 225 (dk_at dksX3_read_0 6 rfl rfl)
theorem dX3_read_9 : decode cX3_read 9 = .ok (.aload_n 0, 1) := dk_42 (dk_at dksX3_read_0 9 rfl rfl)
theorem dX3_read_10 : decode cX3_read 10 = .ok (.aload_n 0, 1) := dk_42 (dk_at dksX3_read_0 10 rfl rfl)
theorem dX3_read_11 : decode cX3_read 11 = .ok (.getfield 222, 3) := dk_180 0 222 (dk_at dksX3_read_0 11 rfl rfl)
theorem dX3_read_14 : decode cX3_read 14 = .ok (.putfield 228, 3) := dk_181 0 228 (dk_at dksX3_read_0 14 rfl rfl)
theorem dX3_read_17 : decode cX3_read 17 = .ok (.aload_n 0, 1) := dk_42 (dk_at dksX3_read_0 17 rfl rfl)
theorem dX3_read_18 : decode cX3_read 18 = .ok (.iconst 0, 1) := dk_3 (dk_at dksX3_read_0 18 rfl rfl)
theorem dX3_read_19 : decode cX3_read 19 = .ok (.putfield 222, 3) := dk_181 0 222 (dk_at dksX3_read_0 19 rfl rfl)
theorem dX3_read_22 : decode cX3_read 22 = .ok (.aload_n 0, 1) := dk_42 (dk_at dksX3_read_0 22 rfl rfl)
theorem dX3_read_23 : decode cX3_read 23 = .ok (.iconst 0, 1) := dk_3 (dk_at dksX3_read_0 23 rfl rfl)
theorem dX3_read_24 : decode cX3_read 24 = .ok (.putfield 249, 3) := dk_181 0 249 (dk_at dksX3_read_1 0 rfl rfl)
theorem dX3_read_27 : decode cX3_read 27 = .ok (.aload_n 0, 1) := dk_42 (dk_at dksX3_read_1 3 rfl rfl)
theorem dX3_read_28 : decode cX3_read 28 = .ok (.iconst 0, 1) := dk_3 (dk_at dksX3_read_1 4 rfl rfl)
theorem dX3_read_29 : decode cX3_read 29 = .ok (.putfield 235, 3) := dk_181 0 235 (dk_at dksX3_read_1 5 rfl rfl)
theorem dX3_read_32 : decode cX3_read 32 = .ok (.aload_n 0, 1) := dk_42 (dk_at dksX3_read_1 8 rfl rfl)
theorem dX3_read_33 : decode cX3_read 33 = .ok (.invokevirtual 277, 3) := dk_182 1 21 (dk_at dksX3_read_1 9 rfl rfl)
theorem dX3_read_36 : decode cX3_read 36 = .ok (.aload_n 0, 1) := dk_42 (dk_at dksX3_read_1 12 rfl rfl)
theorem dX3_read_37 : decode cX3_read 37 = .ok (.getfield 235, 3) := dk_180 0 235 (dk_at dksX3_read_1 13 rfl rfl)
theorem dX3_read_40 : decode cX3_read 40 = .ok (.ifCond .ne 30, 3) := dk_154 0 30 (dk_at dksX3_read_1 16 rfl rfl)
theorem dX3_read_43 : decode cX3_read 43 = .ok (.aload_n 0, 1) := dk_42 (dk_at dksX3_read_1 19 rfl rfl)
theorem dX3_read_44 : decode cX3_read 44 = .ok (.iconst 0, 1) := dk_3 (dk_at dksX3_read_1 20 rfl rfl)
theorem dX3_read_45 : decode cX3_read 45 = .ok (.invokevirtual 239, 3) := dk_182 0 239 (dk_at dksX3_read_1 21 rfl rfl)
theorem dX3_read_48 : decode cX3_read 48 = .ok (.bipush 59, 2) := dk_16 59 (dk_at dksX3_read_2 0 rfl rfl)
theorem dX3_read_50 : decode cX3_read 50 = .ok (.if_icmp .ne 20, 3) := dk_160 0 20 (dk_at dksX3_read_2 2 rfl rfl)
theorem dX3_read_53 : decode cX3_read 53 = .ok (.aload_n 0, 1) := dk_42 (dk_at dksX3_read_2 5 rfl rfl)
theorem dX3_read_54 : decode cX3_read 54 = .ok (.dup, 1) := dk_89 (dk_at dksX3_read_2 6 rfl rfl)
theorem dX3_read_55 : decode cX3_read 55 = .ok (.getfield 225, 3) := dk_180 0 225 (dk_at dksX3_read_2 7 rfl rfl)
theorem dX3_read_58 : decode cX3_read 58 = .ok (.iconst 1, 1) := dk_4 (dk_at dksX3_read_2 10 rfl rfl)
theorem dX3_read_59 : decode cX3_read 59 = .ok (.iadd, 1) := dk_96 (dk_at dksX3_read_2 11 rfl rfl)
theorem dX3_read_60 : decode cX3_read 60 = .ok (.putfield 225, 3) := dk_181 0 225 (dk_at dksX3_read_2 12 rfl rfl)
theorem dX3_read_63 : decode cX3_read 63 = .ok (.aload_n 0, 1) := dk_42 (dk_at dksX3_read_2 15 rfl rfl)
theorem dX3_read_64 : decode cX3_read 64 = .ok (.invokevirtual 277, 3) := dk_182 1 21 (dk_at dksX3_read_2 16 rfl rfl)
theorem dX3_read_67 : decode cX3_read 67 = .ok (.goto (-31), 3) := dk_167 255 225 (dk_at dksX3_read_2 19 rfl rfl)
theorem dX3_read_70 : decode cX3_read 70 = .ok (.aload_n 0, 1) := dk_42 (dk_at dksX3_read_2 22 rfl rfl)
theorem dX3_read_71 : decode cX3_read 71 = .ok (.getfield 235, 3) := dk_180 0 235 (dk_at dksX3_read_3 0 rfl rfl)
theorem dX3_read_74 : decode cX3_read 74 = .ok (.ifCond .ne 14, 3) := dk_154 0 14 (dk_at dksX3_read_3 3 rfl rfl)
theorem dX3_read_77 : decode cX3_read 77 = .ok (.aload_n 0, 1) := dk_42 (dk_at dksX3_read_3 6 rfl rfl)
theorem dX3_read_78 : decode cX3_read 78 = .ok (.getfield 225, 3) := dk_180 0 225 (dk_at dksX3_read_3 7 rfl rfl)
theorem dX3_read_81 : decode cX3_read 81 = .ok (.aload_n 0, 1) := dk_42 (dk_at dksX3_read_3 10 rfl rfl)
theorem dX3_read_82 : decode cX3_read 82 = .ok (.getfield 228, 3) := dk_180 0 228 (dk_at dksX3_read_3 11 rfl rfl)
theorem dX3_read_85 : decode cX3_read 85 = .ok (.if_icmp .ge 17, 3) := dk_162 0 17 (dk_at dksX3_read_3 14 rfl rfl)
theorem dX3_read_88 : decode cX3_read 88 = .ok (.aload_n 0, 1) := dk_42 (dk_at dksX3_read_3 17 rfl rfl)
theorem dX3_read_89 : decode cX3_read 89 = .ok (.aload_n 0, 1) := dk_42 (dk_at dksX3_read_3 18 rfl rfl)
theorem dX3_read_90 : decode cX3_read 90 = .ok (.getfield 225, 3) := dk_180 0 225 (dk_at dksX3_read_3 19 rfl rfl)
theorem dX3_read_93 : decode cX3_read 93 = .ok (.putfield 43, 3) := dk_181 0 43 (dk_at dksX3_read_4 0 rfl rfl)
theorem dX3_read_96 : decode cX3_read 96 = .ok (.aload_n 0, 1) := dk_42 (dk_at dksX3_read_4 3 rfl rfl)
theorem dX3_read_97 : decode cX3_read 97 = .ok (.iconst 1, 1) := dk_4 (dk_at dksX3_read_4 4 rfl rfl)
theorem dX3_read_98 : decode cX3_read 98 = .ok (.invokevirtual 69, 3) := dk_182 0 69 (dk_at dksX3_read_4 5 rfl rfl)
theorem dX3_read_101 : decode cX3_read 101 = .ok (.ireturn, 1) := dk_172 (dk_at dksX3_read_4 8 rfl rfl)
theorem dX3_read_102 : decode cX3_read 102 = .ok (.iconst 0, 1) := dk_3 (dk_at dksX3_read_4 9 rfl rfl)
theorem dX3_read_103 : decode cX3_read 103 = .ok (.istore_n 1, 1) := dk_60 (dk_at dksX3_read_4 10 rfl rfl)
theorem dX3_read_104 : decode cX3_read 104 = .ok (.iload_n 1, 1) := dk_27 (dk_at dksX3_read_4 11 rfl rfl)
theorem dX3_read_105 : decode cX3_read 105 = .ok (.aload_n 0, 1) := dk_42 (dk_at dksX3_read_4 12 rfl rfl)
theorem dX3_read_106 : decode cX3_read 106 = .ok (.getfield 249, 3) := dk_180 0 249 (dk_at dksX3_read_4 13 rfl rfl)
theorem dX3_read_109 : decode cX3_read 109 = .ok (.if_icmp .ge 66, 3) := dk_162 0 66 (dk_at dksX3_read_4 16 rfl rfl)
theorem dX3_read_112 : decode cX3_read 112 = .ok (.aload_n 0, 1) := dk_42 (dk_at dksX3_read_4 19 rfl rfl)
theorem dX3_read_113 : decode cX3_read 113 = .ok (.iload_n 1, 1) := dk_27 (dk_at dksX3_read_4 20 rfl rfl)
theorem dX3_read_114 : decode cX3_read 114 = .ok (.invokevirtual 280, 3) := dk_182 1 24 (dk_at dksX3_read_4 21 rfl rfl)
theorem dX3_read_117 : decode cX3_read 117 = .ok (.istore_n 2, 1) := dk_61 (dk_at dksX3_read_5 0 rfl rfl)
theorem dX3_read_118 : decode cX3_read 118 = .ok (.iload_n 2, 1) := dk_28 (dk_at dksX3_read_5 1 rfl rfl)
theorem dX3_read_119 : decode cX3_read 119 = .ok (.ifCond .ne 6, 3) := dk_154 0 6 (dk_at dksX3_read_5 2 rfl rfl)
theorem dX3_read_122 : decode cX3_read 122 = .ok (.goto 47, 3) := dk_167 0 47 (dk_at dksX3_read_5 5 rfl rfl)
theorem dX3_read_125 : decode cX3_read 125 = .ok (.iconst 0, 1) := dk_3 (dk_at dksX3_read_5 8 rfl rfl)
theorem dX3_read_126 : decode cX3_read 126 = .ok (.istore_n 3, 1) := dk_62 (dk_at dksX3_read_5 9 rfl rfl)
theorem dX3_read_127 : decode cX3_read 127 = .ok (.iload_n 3, 1) := dk_29 (dk_at dksX3_read_5 10 rfl rfl)
theorem dX3_read_128 : decode cX3_read 128 = .ok (.bipush 93, 2) := dk_16 93 (dk_at dksX3_read_5 11 rfl rfl)
theorem dX3_read_130 : decode cX3_read 130 = .ok (.if_icmp .ge 21, 3) := dk_162 0 21 (dk_at dksX3_read_5 13 rfl rfl)
theorem dX3_read_133 : decode cX3_read 133 = .ok (.aload_n 0, 1) := dk_42 (dk_at dksX3_read_5 16 rfl rfl)
theorem dX3_read_134 : decode cX3_read 134 = .ok (.getfield 7, 3) := dk_180 0 7 (dk_at dksX3_read_5 17 rfl rfl)
theorem dX3_read_137 : decode cX3_read 137 = .ok (.iload_n 3, 1) := dk_29 (dk_at dksX3_read_5 20 rfl rfl)
theorem dX3_read_138 : decode cX3_read 138 = .ok (.aload_n 0, 1) := dk_42 (dk_at dksX3_read_5 21 rfl rfl)
theorem dX3_read_139 : decode cX3_read 139 = .ok (.getfield 13, 3) := dk_180 0 13 (dk_at dksX3_read_6 0 rfl rfl)
theorem dX3_read_142 : decode cX3_read 142 = .ok (.iload_n 3, 1) := dk_29 (dk_at dksX3_read_6 3 rfl rfl)
theorem dX3_read_143 : decode cX3_read 143 = .ok (.iaload, 1) := dk_46 (dk_at dksX3_read_6 4 rfl rfl)
theorem dX3_read_144 : decode cX3_read 144 = .ok (.iastore, 1) := dk_79 (dk_at dksX3_read_6 5 rfl rfl)
theorem dX3_read_145 : decode cX3_read 145 = .ok (.iinc 3 1, 3) := dk_132 3 1 (dk_at dksX3_read_6 6 rfl rfl)
theorem dX3_read_148 : decode cX3_read 148 = .ok (.goto (-21), 3) := dk_167 255 235 (dk_at dksX3_read_6 9 rfl rfl)
theorem dX3_read_151 : decode cX3_read 151 = .ok (.aload_n 0, 1) := dk_42 (dk_at dksX3_read_6 12 rfl rfl)
theorem dX3_read_152 : decode cX3_read 152 = .ok (.iload_n 1, 1) := dk_27 (dk_at dksX3_read_6 13 rfl rfl)
theorem dX3_read_153 : decode cX3_read 153 = .ok (.putfield 47, 3) := dk_181 0 47 (dk_at dksX3_read_6 14 rfl rfl)
theorem dX3_read_156 : decode cX3_read 156 = .ok (.aload_n 0, 1) := dk_42 (dk_at dksX3_read_6 17 rfl rfl)
theorem dX3_read_157 : decode cX3_read 157 = .ok (.iload_n 2, 1) := dk_28 (dk_at dksX3_read_6 18 rfl rfl)
theorem dX3_read_158 : decode cX3_read 158 = .ok (.iconst 2, 1) := dk_5 (dk_at dksX3_read_6 19 rfl rfl)
theorem dX3_read_159 : decode cX3_read 159 = .ok (.invokevirtual 155, 3) := dk_182 0 155 (dk_at dksX3_read_6 20 rfl rfl)
theorem dX3_read_162 : decode cX3_read 162 = .ok (.istore_n 3, 1) := dk_62 (dk_at dksX3_read_6 23 rfl rfl)
theorem dX3_read_163 : decode cX3_read 163 = .ok (.aload_n 0, 1) := dk_42 (dk_at dksX3_read_7 0 rfl rfl)
theorem dX3_read_164 : decode cX3_read 164 = .ok (.iconst 2, 1) := dk_5 (dk_at dksX3_read_7 1 rfl rfl)
theorem dX3_read_165 : decode cX3_read 165 = .ok (.invokevirtual 69, 3) := dk_182 0 69 (dk_at dksX3_read_7 2 rfl rfl)
theorem dX3_read_168 : decode cX3_read 168 = .ok (.ireturn, 1) := dk_172 (dk_at dksX3_read_7 5 rfl rfl)
theorem dX3_read_169 : decode cX3_read 169 = .ok (.iinc 1 1, 3) := dk_132 1 1 (dk_at dksX3_read_7 6 rfl rfl)
theorem dX3_read_172 : decode cX3_read 172 = .ok (.goto (-68), 3) := dk_167 255 188 (dk_at dksX3_read_7 9 rfl rfl)
theorem dX3_read_175 : decode cX3_read 175 = .ok (.aload_n 0, 1) := dk_42 (dk_at dksX3_read_7 12 rfl rfl)
theorem dX3_read_176 : decode cX3_read 176 = .ok (.aload_n 0, 1) := dk_42 (dk_at dksX3_read_7 13 rfl rfl)
theorem dX3_read_177 : decode cX3_read 177 = .ok (.getfield 249, 3) := dk_180 0 249 (dk_at dksX3_read_7 14 rfl rfl)
theorem dX3_read_180 : decode cX3_read 180 = .ok (.invokevirtual 65, 3) := dk_182 0 65 (dk_at dksX3_read_7 17 rfl rfl)
theorem dX3_read_183 : decode cX3_read 183 = .ok (.ireturn, 1) := dk_172 (dk_at dksX3_read_7 20 rfl rfl)
abbrev cX3_readsOne : ByteArray := prog_14_method_87_code
def yX3_readsOne : MethodName := ⟨RX3, "readsOne", "()V"⟩
def dkwX3_readsOne_5 : List UInt8 := [182, 0, 254, 167, 0, 8, 42, 4, 181, 0, 235, 42, 89, 180, 0, 249, 4, 96, 181, 0, 249, 177]
abbrev dktX3_readsOne_5 : List UInt8 := dkwX3_readsOne_5 ++ []
def dkwX3_readsOne_4 : List UInt8 := [182, 0, 254, 167, 0, 30, 42, 19, 1, 17, 5, 182, 0, 254, 167, 0, 19, 42, 19, 1, 19, 4]
abbrev dktX3_readsOne_4 : List UInt8 := dkwX3_readsOne_4 ++ dktX3_readsOne_5
def dkwX3_readsOne_3 : List UInt8 := [182, 0, 254, 167, 0, 52, 42, 19, 1, 13, 6, 182, 0, 254, 167, 0, 41, 42, 19, 1, 15, 3]
abbrev dktX3_readsOne_3 : List UInt8 := dkwX3_readsOne_3 ++ dktX3_readsOne_4
def dkwX3_readsOne_2 : List UInt8 := [42, 182, 1, 6, 167, 0, 74, 42, 19, 1, 9, 5, 182, 0, 254, 167, 0, 63, 42, 19, 1, 11, 4]
abbrev dktX3_readsOne_2 : List UInt8 := dkwX3_readsOne_2 ++ dktX3_readsOne_3
def dkwX3_readsOne_1 : List UInt8 := [170, 0, 0, 0, 150, 0, 0, 0, 100, 0, 0, 0, 115, 0, 0, 0, 128, 0, 0, 0, 150, 0, 0, 0, 139, 0, 0, 0, 150, 0, 0, 0, 84, 0, 0, 0, 150, 0, 0, 0, 150, 0, 0, 0, 150, 0, 0, 0, 95, 0, 0, 0, 106, 0, 0, 0, 150, 0, 0, 0, 150, 0, 0, 0, 150, 0, 0, 0, 150, 0, 0, 0, 117, 0, 0, 0, 77]
abbrev dktX3_readsOne_1 : List UInt8 := dkwX3_readsOne_1 ++ dktX3_readsOne_2
def dkwX3_readsOne_0 : List UInt8 := [42, 3, 182, 0, 239, 60, 42, 180, 0, 31, 7, 42, 180, 0, 249, 104, 27, 79, 27]
abbrev dktX3_readsOne_0 : List UInt8 := dkwX3_readsOne_0 ++ dktX3_readsOne_1
theorem dksX3_readsOne_0 : cX3_readsOne.data.toList.drop 0 = dktX3_readsOne_0 := by decide +kernel
theorem dksX3_readsOne_1 : cX3_readsOne.data.toList.drop 19 = dktX3_readsOne_1 := dk_seg dksX3_readsOne_0 19 rfl rfl
theorem dksX3_readsOne_2 : cX3_readsOne.data.toList.drop 96 = dktX3_readsOne_2 := dk_seg dksX3_readsOne_1 77 rfl rfl
theorem dksX3_readsOne_3 : cX3_readsOne.data.toList.drop 119 = dktX3_readsOne_3 := dk_seg dksX3_readsOne_2 23 rfl rfl
theorem dksX3_readsOne_4 : cX3_readsOne.data.toList.drop 141 = dktX3_readsOne_4 := dk_seg dksX3_readsOne_3 22 rfl rfl
theorem dksX3_readsOne_5 : cX3_readsOne.data.toList.drop 163 = dktX3_readsOne_5 := dk_seg dksX3_readsOne_4 22 rfl rfl
theorem dX3_readsOne_0 : decode cX3_readsOne 0 = .ok (.aload_n 0, 1) := dk_42 (dk_at dksX3_readsOne_0 0 rfl rfl)
theorem dX3_readsOne_1 : decode cX3_readsOne 1 = .ok (.iconst 0, 1) := dk_3 (dk_at dksX3_readsOne_0 1 rfl rfl)
theorem dX3_readsOne_2 : decode cX3_readsOne 2 = .ok (.invokevirtual 239, 3) := dk_182 0 239 (dk_at dksX3_readsOne_0 2 rfl rfl)
theorem dX3_readsOne_5 : decode cX3_readsOne 5 = .ok (.istore_n 1, 1) := dk_60 (dk_at dksX3_readsOne_0 5 rfl rfl)
theorem dX3_readsOne_6 : decode cX3_readsOne 6 = .ok (.aload_n 0, 1) := dk_42 (dk_at dksX3_readsOne_0 6 rfl rfl)
theorem dX3_readsOne_7 : decode cX3_readsOne 7 = .ok (.getfield 31, 3) := dk_180 0 31 (dk_at dksX3_readsOne_0 7 rfl rfl)
theorem dX3_readsOne_10 : decode cX3_readsOne 10 = .ok (.iconst 4, 1) := dk_7 (dk_at dksX3_readsOne_0 10 rfl rfl)
theorem dX3_readsOne_11 : decode cX3_readsOne 11 = .ok (.aload_n 0, 1) := dk_42 (dk_at dksX3_readsOne_0 11 rfl rfl)
theorem dX3_readsOne_12 : decode cX3_readsOne 12 = .ok (.getfield 249, 3) := dk_180 0 249 (dk_at dksX3_readsOne_0 12 rfl rfl)
theorem dX3_readsOne_15 : decode cX3_readsOne 15 = .ok (.imul, 1) := dk_104 (dk_at dksX3_readsOne_0 15 rfl rfl)
theorem dX3_readsOne_16 : decode cX3_readsOne 16 = .ok (.iload_n 1, 1) := dk_27 (dk_at dksX3_readsOne_0 16 rfl rfl)
theorem dX3_readsOne_17 : decode cX3_readsOne 17 = .ok (.iastore, 1) := dk_79 (dk_at dksX3_readsOne_0 17 rfl rfl)
theorem dX3_readsOne_18 : decode cX3_readsOne 18 = .ok (.iload_n 1, 1) := dk_27 (dk_at dksX3_readsOne_0 18 rfl rfl)
theorem dX3_readsOne_19 : decode cX3_readsOne 19 = .ok (.tableswitch 150 100 115 #[128, 150, 139, 150, 84, 150, 150, 150, 95, 106, 150, 150, 150, 150, 117, 77], 77) := by decide +kernel
theorem dX3_readsOne_96 : decode cX3_readsOne 96 = .ok (.aload_n 0, 1) := dk_42 (dk_at dksX3_readsOne_2 0 rfl rfl)
theorem dX3_readsOne_97 : decode cX3_readsOne 97 = .ok (.invokevirtual 262, 3) := dk_182 1 6 (dk_at dksX3_readsOne_2 1 rfl rfl)
theorem dX3_readsOne_100 : decode cX3_readsOne 100 = .ok (.goto 74, 3) := dk_167 0 74 (dk_at dksX3_readsOne_2 4 rfl rfl)
theorem dX3_readsOne_103 : decode cX3_readsOne 103 = .ok (.aload_n 0, 1) := dk_42 (dk_at dksX3_readsOne_2 7 rfl rfl)
theorem dX3_readsOne_104 : decode cX3_readsOne 104 = .ok (.ldc_w 265, 3) := dk_19 1 9 (dk_at dksX3_readsOne_2 8 rfl rfl)
theorem dX3_readsOne_107 : decode cX3_readsOne 107 = .ok (.iconst 2, 1) := dk_5 (dk_at dksX3_readsOne_2 11 rfl rfl)
theorem dX3_readsOne_108 : decode cX3_readsOne 108 = .ok (.invokevirtual 254, 3) := dk_182 0 254 (dk_at dksX3_readsOne_2 12 rfl rfl)
theorem dX3_readsOne_111 : decode cX3_readsOne 111 = .ok (.goto 63, 3) := dk_167 0 63 (dk_at dksX3_readsOne_2 15 rfl rfl)
theorem dX3_readsOne_114 : decode cX3_readsOne 114 = .ok (.aload_n 0, 1) := dk_42 (dk_at dksX3_readsOne_2 18 rfl rfl)
theorem dX3_readsOne_115 : decode cX3_readsOne 115 = .ok (.ldc_w 267, 3) := dk_19 1 11 (dk_at dksX3_readsOne_2 19 rfl rfl)
theorem dX3_readsOne_118 : decode cX3_readsOne 118 = .ok (.iconst 1, 1) := dk_4 (dk_at dksX3_readsOne_2 22 rfl rfl)
theorem dX3_readsOne_119 : decode cX3_readsOne 119 = .ok (.invokevirtual 254, 3) := dk_182 0 254 (dk_at dksX3_readsOne_3 0 rfl rfl)
theorem dX3_readsOne_122 : decode cX3_readsOne 122 = .ok (.goto 52, 3) := dk_167 0 52 (dk_at dksX3_readsOne_3 3 rfl rfl)
theorem dX3_readsOne_125 : decode cX3_readsOne 125 = .ok (.aload_n 0, 1) := dk_42 (dk_at dksX3_readsOne_3 6 rfl rfl)
theorem dX3_readsOne_126 : decode cX3_readsOne 126 = .ok (.ldc_w 269, 3) := dk_19 1 13 (dk_at dksX3_readsOne_3 7 rfl rfl)
theorem dX3_readsOne_129 : decode cX3_readsOne 129 = .ok (.iconst 3, 1) := dk_6 (dk_at dksX3_readsOne_3 10 rfl rfl)
theorem dX3_readsOne_130 : decode cX3_readsOne 130 = .ok (.invokevirtual 254, 3) := dk_182 0 254 (dk_at dksX3_readsOne_3 11 rfl rfl)
theorem dX3_readsOne_133 : decode cX3_readsOne 133 = .ok (.goto 41, 3) := dk_167 0 41 (dk_at dksX3_readsOne_3 14 rfl rfl)
theorem dX3_readsOne_136 : decode cX3_readsOne 136 = .ok (.aload_n 0, 1) := dk_42 (dk_at dksX3_readsOne_3 17 rfl rfl)
theorem dX3_readsOne_137 : decode cX3_readsOne 137 = .ok (.ldc_w 271, 3) := dk_19 1 15 (dk_at dksX3_readsOne_3 18 rfl rfl)
theorem dX3_readsOne_140 : decode cX3_readsOne 140 = .ok (.iconst 0, 1) := dk_3 (dk_at dksX3_readsOne_3 21 rfl rfl)
theorem dX3_readsOne_141 : decode cX3_readsOne 141 = .ok (.invokevirtual 254, 3) := dk_182 0 254 (dk_at dksX3_readsOne_4 0 rfl rfl)
theorem dX3_readsOne_144 : decode cX3_readsOne 144 = .ok (.goto 30, 3) := dk_167 0 30 (dk_at dksX3_readsOne_4 3 rfl rfl)
theorem dX3_readsOne_147 : decode cX3_readsOne 147 = .ok (.aload_n 0, 1) := dk_42 (dk_at dksX3_readsOne_4 6 rfl rfl)
theorem dX3_readsOne_148 : decode cX3_readsOne 148 = .ok (.ldc_w 273, 3) := dk_19 1 17 (dk_at dksX3_readsOne_4 7 rfl rfl)
theorem dX3_readsOne_151 : decode cX3_readsOne 151 = .ok (.iconst 2, 1) := dk_5 (dk_at dksX3_readsOne_4 10 rfl rfl)
theorem dX3_readsOne_152 : decode cX3_readsOne 152 = .ok (.invokevirtual 254, 3) := dk_182 0 254 (dk_at dksX3_readsOne_4 11 rfl rfl)
theorem dX3_readsOne_155 : decode cX3_readsOne 155 = .ok (.goto 19, 3) := dk_167 0 19 (dk_at dksX3_readsOne_4 14 rfl rfl)
theorem dX3_readsOne_158 : decode cX3_readsOne 158 = .ok (.aload_n 0, 1) := dk_42 (dk_at dksX3_readsOne_4 17 rfl rfl)
theorem dX3_readsOne_159 : decode cX3_readsOne 159 = .ok (.ldc_w 275, 3) := dk_19 1 19 (dk_at dksX3_readsOne_4 18 rfl rfl)
theorem dX3_readsOne_162 : decode cX3_readsOne 162 = .ok (.iconst 1, 1) := dk_4 (dk_at dksX3_readsOne_4 21 rfl rfl)
theorem dX3_readsOne_163 : decode cX3_readsOne 163 = .ok (.invokevirtual 254, 3) := dk_182 0 254 (dk_at dksX3_readsOne_5 0 rfl rfl)
theorem dX3_readsOne_166 : decode cX3_readsOne 166 = .ok (.goto 8, 3) := dk_167 0 8 (dk_at dksX3_readsOne_5 3 rfl rfl)
theorem dX3_readsOne_169 : decode cX3_readsOne 169 = .ok (.aload_n 0, 1) := dk_42 (dk_at dksX3_readsOne_5 6 rfl rfl)
theorem dX3_readsOne_170 : decode cX3_readsOne 170 = .ok (.iconst 1, 1) := dk_4 (dk_at dksX3_readsOne_5 7 rfl rfl)
theorem dX3_readsOne_171 : decode cX3_readsOne 171 = .ok (.putfield 235, 3) := dk_181 0 235 (dk_at dksX3_readsOne_5 8 rfl rfl)
theorem dX3_readsOne_174 : decode cX3_readsOne 174 = .ok (.aload_n 0, 1) := dk_42 (dk_at dksX3_readsOne_5 11 rfl rfl)
theorem dX3_readsOne_175 : decode cX3_readsOne 175 = .ok (.dup, 1) := dk_89 (dk_at dksX3_readsOne_5 12 rfl rfl)
theorem dX3_readsOne_176 : decode cX3_readsOne 176 = .ok (.getfield 249, 3) := dk_180 0 249 (dk_at dksX3_readsOne_5 13 rfl rfl)
theorem dX3_readsOne_179 : decode cX3_readsOne 179 = .ok (.iconst 1, 1) := dk_4 (dk_at dksX3_readsOne_5 16 rfl rfl)
theorem dX3_readsOne_180 : decode cX3_readsOne 180 = .ok (.iadd, 1) := dk_96 (dk_at dksX3_readsOne_5 17 rfl rfl)
theorem dX3_readsOne_181 : decode cX3_readsOne 181 = .ok (.putfield 249, 3) := dk_181 0 249 (dk_at dksX3_readsOne_5 18 rfl rfl)
theorem dX3_readsOne_184 : decode cX3_readsOne 184 = .ok (.return_, 1) := dk_177 (dk_at dksX3_readsOne_5 21 rfl rfl)
abbrev cX3_here : ByteArray := prog_14_method_83_code
def yX3_here : MethodName := ⟨RX3, "here", "(I)I"⟩
def dkwX3_here_1 : List UInt8 := [167, 0, 4, 2, 172]
abbrev dktX3_here_1 : List UInt8 := dkwX3_here_1 ++ []
def dkwX3_here_0 : List UInt8 := [42, 180, 0, 225, 27, 96, 42, 180, 0, 228, 162, 0, 17, 42, 180, 0, 28, 42, 180, 0, 225, 27, 96, 46]
abbrev dktX3_here_0 : List UInt8 := dkwX3_here_0 ++ dktX3_here_1
theorem dksX3_here_0 : cX3_here.data.toList.drop 0 = dktX3_here_0 := by decide +kernel
theorem dksX3_here_1 : cX3_here.data.toList.drop 24 = dktX3_here_1 := dk_seg dksX3_here_0 24 rfl rfl
theorem dX3_here_0 : decode cX3_here 0 = .ok (.aload_n 0, 1) := dk_42 (dk_at dksX3_here_0 0 rfl rfl)
theorem dX3_here_1 : decode cX3_here 1 = .ok (.getfield 225, 3) := dk_180 0 225 (dk_at dksX3_here_0 1 rfl rfl)
theorem dX3_here_4 : decode cX3_here 4 = .ok (.iload_n 1, 1) := dk_27 (dk_at dksX3_here_0 4 rfl rfl)
theorem dX3_here_5 : decode cX3_here 5 = .ok (.iadd, 1) := dk_96 (dk_at dksX3_here_0 5 rfl rfl)
theorem dX3_here_6 : decode cX3_here 6 = .ok (.aload_n 0, 1) := dk_42 (dk_at dksX3_here_0 6 rfl rfl)
theorem dX3_here_7 : decode cX3_here 7 = .ok (.getfield 228, 3) := dk_180 0 228 (dk_at dksX3_here_0 7 rfl rfl)
theorem dX3_here_10 : decode cX3_here 10 = .ok (.if_icmp .ge 17, 3) := dk_162 0 17 (dk_at dksX3_here_0 10 rfl rfl)
theorem dX3_here_13 : decode cX3_here 13 = .ok (.aload_n 0, 1) := dk_42 (dk_at dksX3_here_0 13 rfl rfl)
theorem dX3_here_14 : decode cX3_here 14 = .ok (.getfield 28, 3) := dk_180 0 28 (dk_at dksX3_here_0 14 rfl rfl)
theorem dX3_here_17 : decode cX3_here 17 = .ok (.aload_n 0, 1) := dk_42 (dk_at dksX3_here_0 17 rfl rfl)
theorem dX3_here_18 : decode cX3_here 18 = .ok (.getfield 225, 3) := dk_180 0 225 (dk_at dksX3_here_0 18 rfl rfl)
theorem dX3_here_21 : decode cX3_here 21 = .ok (.iload_n 1, 1) := dk_27 (dk_at dksX3_here_0 21 rfl rfl)
theorem dX3_here_22 : decode cX3_here 22 = .ok (.iadd, 1) := dk_96 (dk_at dksX3_here_0 22 rfl rfl)
theorem dX3_here_23 : decode cX3_here 23 = .ok (.iaload, 1) := dk_46 (dk_at dksX3_here_0 23 rfl rfl)
theorem dX3_here_24 : decode cX3_here 24 = .ok (.goto 4, 3) := dk_167 0 4 (dk_at dksX3_here_1 0 rfl rfl)
theorem dX3_here_27 : decode cX3_here 27 = .ok (.iconst (-1), 1) := dk_2 (dk_at dksX3_here_1 3 rfl rfl)
theorem dX3_here_28 : decode cX3_here 28 = .ok (.ireturn, 1) := dk_172 (dk_at dksX3_here_1 4 rfl rfl)
abbrev cX3_readsS : ByteArray := prog_14_method_86_code
def yX3_readsS : MethodName := ⟨RX3, "readsS", "()V"⟩
def dkwX3_readsS_3 : List UInt8 := [167, 0, 11, 42, 19, 1, 4, 6, 182, 0, 254, 177]
abbrev dktX3_readsS_3 : List UInt8 := dkwX3_readsS_3 ++ []
def dkwX3_readsS_2 : List UInt8 := [18, 252, 4, 182, 0, 254, 167, 0, 28, 27, 16, 101, 160, 0, 14, 42, 19, 1, 2, 4, 182, 0, 254]
abbrev dktX3_readsS_2 : List UInt8 := dkwX3_readsS_2 ++ dktX3_readsS_3
def dkwX3_readsS_1 : List UInt8 := [167, 0, 16, 27, 16, 101, 160, 0, 8, 16, 116, 167, 0, 5, 16, 115, 79, 27, 16, 116, 160, 0, 13, 42]
abbrev dktX3_readsS_1 : List UInt8 := dkwX3_readsS_1 ++ dktX3_readsS_2
def dkwX3_readsS_0 : List UInt8 := [42, 4, 182, 0, 239, 60, 42, 180, 0, 31, 7, 42, 180, 0, 249, 104, 27, 16, 116, 160, 0, 8, 16, 107]
abbrev dktX3_readsS_0 : List UInt8 := dkwX3_readsS_0 ++ dktX3_readsS_1
theorem dksX3_readsS_0 : cX3_readsS.data.toList.drop 0 = dktX3_readsS_0 := by decide +kernel
theorem dksX3_readsS_1 : cX3_readsS.data.toList.drop 24 = dktX3_readsS_1 := dk_seg dksX3_readsS_0 24 rfl rfl
theorem dksX3_readsS_2 : cX3_readsS.data.toList.drop 48 = dktX3_readsS_2 := dk_seg dksX3_readsS_1 24 rfl rfl
theorem dksX3_readsS_3 : cX3_readsS.data.toList.drop 71 = dktX3_readsS_3 := dk_seg dksX3_readsS_2 23 rfl rfl
theorem dX3_readsS_0 : decode cX3_readsS 0 = .ok (.aload_n 0, 1) := dk_42 (dk_at dksX3_readsS_0 0 rfl rfl)
theorem dX3_readsS_1 : decode cX3_readsS 1 = .ok (.iconst 1, 1) := dk_4 (dk_at dksX3_readsS_0 1 rfl rfl)
theorem dX3_readsS_2 : decode cX3_readsS 2 = .ok (.invokevirtual 239, 3) := dk_182 0 239 (dk_at dksX3_readsS_0 2 rfl rfl)
theorem dX3_readsS_5 : decode cX3_readsS 5 = .ok (.istore_n 1, 1) := dk_60 (dk_at dksX3_readsS_0 5 rfl rfl)
theorem dX3_readsS_6 : decode cX3_readsS 6 = .ok (.aload_n 0, 1) := dk_42 (dk_at dksX3_readsS_0 6 rfl rfl)
theorem dX3_readsS_7 : decode cX3_readsS 7 = .ok (.getfield 31, 3) := dk_180 0 31 (dk_at dksX3_readsS_0 7 rfl rfl)
theorem dX3_readsS_10 : decode cX3_readsS 10 = .ok (.iconst 4, 1) := dk_7 (dk_at dksX3_readsS_0 10 rfl rfl)
theorem dX3_readsS_11 : decode cX3_readsS 11 = .ok (.aload_n 0, 1) := dk_42 (dk_at dksX3_readsS_0 11 rfl rfl)
theorem dX3_readsS_12 : decode cX3_readsS 12 = .ok (.getfield 249, 3) := dk_180 0 249 (dk_at dksX3_readsS_0 12 rfl rfl)
theorem dX3_readsS_15 : decode cX3_readsS 15 = .ok (.imul, 1) := dk_104 (dk_at dksX3_readsS_0 15 rfl rfl)
theorem dX3_readsS_16 : decode cX3_readsS 16 = .ok (.iload_n 1, 1) := dk_27 (dk_at dksX3_readsS_0 16 rfl rfl)
theorem dX3_readsS_17 : decode cX3_readsS 17 = .ok (.bipush 116, 2) := dk_16 116 (dk_at dksX3_readsS_0 17 rfl rfl)
theorem dX3_readsS_19 : decode cX3_readsS 19 = .ok (.if_icmp .ne 8, 3) := dk_160 0 8 (dk_at dksX3_readsS_0 19 rfl rfl)
theorem dX3_readsS_22 : decode cX3_readsS 22 = .ok (.bipush 107, 2) := dk_16 107 (dk_at dksX3_readsS_0 22 rfl rfl)
theorem dX3_readsS_24 : decode cX3_readsS 24 = .ok (.goto 16, 3) := dk_167 0 16 (dk_at dksX3_readsS_1 0 rfl rfl)
theorem dX3_readsS_27 : decode cX3_readsS 27 = .ok (.iload_n 1, 1) := dk_27 (dk_at dksX3_readsS_1 3 rfl rfl)
theorem dX3_readsS_28 : decode cX3_readsS 28 = .ok (.bipush 101, 2) := dk_16 101 (dk_at dksX3_readsS_1 4 rfl rfl)
theorem dX3_readsS_30 : decode cX3_readsS 30 = .ok (.if_icmp .ne 8, 3) := dk_160 0 8 (dk_at dksX3_readsS_1 6 rfl rfl)
theorem dX3_readsS_33 : decode cX3_readsS 33 = .ok (.bipush 116, 2) := dk_16 116 (dk_at dksX3_readsS_1 9 rfl rfl)
theorem dX3_readsS_35 : decode cX3_readsS 35 = .ok (.goto 5, 3) := dk_167 0 5 (dk_at dksX3_readsS_1 11 rfl rfl)
theorem dX3_readsS_38 : decode cX3_readsS 38 = .ok (.bipush 115, 2) := dk_16 115 (dk_at dksX3_readsS_1 14 rfl rfl)
theorem dX3_readsS_40 : decode cX3_readsS 40 = .ok (.iastore, 1) := dk_79 (dk_at dksX3_readsS_1 16 rfl rfl)
theorem dX3_readsS_41 : decode cX3_readsS 41 = .ok (.iload_n 1, 1) := dk_27 (dk_at dksX3_readsS_1 17 rfl rfl)
theorem dX3_readsS_42 : decode cX3_readsS 42 = .ok (.bipush 116, 2) := dk_16 116 (dk_at dksX3_readsS_1 18 rfl rfl)
theorem dX3_readsS_44 : decode cX3_readsS 44 = .ok (.if_icmp .ne 13, 3) := dk_160 0 13 (dk_at dksX3_readsS_1 20 rfl rfl)
theorem dX3_readsS_47 : decode cX3_readsS 47 = .ok (.aload_n 0, 1) := dk_42 (dk_at dksX3_readsS_1 23 rfl rfl)
theorem dX3_readsS_48 : decode cX3_readsS 48 = .ok (.ldc 252, 2) := dk_18 252 (dk_at dksX3_readsS_2 0 rfl rfl)
theorem dX3_readsS_50 : decode cX3_readsS 50 = .ok (.iconst 1, 1) := dk_4 (dk_at dksX3_readsS_2 2 rfl rfl)
theorem dX3_readsS_51 : decode cX3_readsS 51 = .ok (.invokevirtual 254, 3) := dk_182 0 254 (dk_at dksX3_readsS_2 3 rfl rfl)
theorem dX3_readsS_54 : decode cX3_readsS 54 = .ok (.goto 28, 3) := dk_167 0 28 (dk_at dksX3_readsS_2 6 rfl rfl)
theorem dX3_readsS_57 : decode cX3_readsS 57 = .ok (.iload_n 1, 1) := dk_27 (dk_at dksX3_readsS_2 9 rfl rfl)
theorem dX3_readsS_58 : decode cX3_readsS 58 = .ok (.bipush 101, 2) := dk_16 101 (dk_at dksX3_readsS_2 10 rfl rfl)
theorem dX3_readsS_60 : decode cX3_readsS 60 = .ok (.if_icmp .ne 14, 3) := dk_160 0 14 (dk_at dksX3_readsS_2 12 rfl rfl)
theorem dX3_readsS_63 : decode cX3_readsS 63 = .ok (.aload_n 0, 1) := dk_42 (dk_at dksX3_readsS_2 15 rfl rfl)
theorem dX3_readsS_64 : decode cX3_readsS 64 = .ok (.ldc_w 258, 3) := dk_19 1 2 (dk_at dksX3_readsS_2 16 rfl rfl)
theorem dX3_readsS_67 : decode cX3_readsS 67 = .ok (.iconst 1, 1) := dk_4 (dk_at dksX3_readsS_2 19 rfl rfl)
theorem dX3_readsS_68 : decode cX3_readsS 68 = .ok (.invokevirtual 254, 3) := dk_182 0 254 (dk_at dksX3_readsS_2 20 rfl rfl)
theorem dX3_readsS_71 : decode cX3_readsS 71 = .ok (.goto 11, 3) := dk_167 0 11 (dk_at dksX3_readsS_3 0 rfl rfl)
theorem dX3_readsS_74 : decode cX3_readsS 74 = .ok (.aload_n 0, 1) := dk_42 (dk_at dksX3_readsS_3 3 rfl rfl)
theorem dX3_readsS_75 : decode cX3_readsS 75 = .ok (.ldc_w 260, 3) := dk_19 1 4 (dk_at dksX3_readsS_3 4 rfl rfl)
theorem dX3_readsS_78 : decode cX3_readsS 78 = .ok (.iconst 3, 1) := dk_6 (dk_at dksX3_readsS_3 7 rfl rfl)
theorem dX3_readsS_79 : decode cX3_readsS 79 = .ok (.invokevirtual 254, 3) := dk_182 0 254 (dk_at dksX3_readsS_3 8 rfl rfl)
theorem dX3_readsS_82 : decode cX3_readsS 82 = .ok (.return_, 1) := dk_177 (dk_at dksX3_readsS_3 11 rfl rfl)
abbrev cX3_says : ByteArray := prog_14_method_84_code
def yX3_says : MethodName := ⟨RX3, "says", "(Ljava/lang/String;I)V"⟩
def dkwX3_says_3 : List UInt8 := [163, 0, 21, 42, 180, 0, 235, 154, 0, 14, 42, 29, 182, 0, 246, 132, 3, 1, 167, 255, 236, 177]
abbrev dktX3_says_3 : List UInt8 := dkwX3_says_3 ++ []
def dkwX3_says_2 : List UInt8 := [153, 0, 7, 3, 167, 0, 4, 4, 96, 181, 0, 225, 132, 3, 1, 167, 255, 195, 4, 62, 29, 28]
abbrev dktX3_says_2 : List UInt8 := dkwX3_says_2 ++ dktX3_says_3
def dkwX3_says_1 : List UInt8 := [29, 182, 0, 242, 159, 0, 7, 4, 167, 0, 4, 3, 181, 0, 235, 42, 89, 180, 0, 225, 42, 180, 0, 235]
abbrev dktX3_says_1 : List UInt8 := dkwX3_says_1 ++ dktX3_says_2
def dkwX3_says_0 : List UInt8 := [3, 62, 29, 43, 182, 0, 231, 162, 0, 59, 42, 180, 0, 235, 154, 0, 52, 42, 42, 3, 182, 0, 239, 43]
abbrev dktX3_says_0 : List UInt8 := dkwX3_says_0 ++ dktX3_says_1
theorem dksX3_says_0 : cX3_says.data.toList.drop 0 = dktX3_says_0 := by decide +kernel
theorem dksX3_says_1 : cX3_says.data.toList.drop 24 = dktX3_says_1 := dk_seg dksX3_says_0 24 rfl rfl
theorem dksX3_says_2 : cX3_says.data.toList.drop 48 = dktX3_says_2 := dk_seg dksX3_says_1 24 rfl rfl
theorem dksX3_says_3 : cX3_says.data.toList.drop 70 = dktX3_says_3 := dk_seg dksX3_says_2 22 rfl rfl
theorem dX3_says_0 : decode cX3_says 0 = .ok (.iconst 0, 1) := dk_3 (dk_at dksX3_says_0 0 rfl rfl)
theorem dX3_says_1 : decode cX3_says 1 = .ok (.istore_n 3, 1) := dk_62 (dk_at dksX3_says_0 1 rfl rfl)
theorem dX3_says_2 : decode cX3_says 2 = .ok (.iload_n 3, 1) := dk_29 (dk_at dksX3_says_0 2 rfl rfl)
theorem dX3_says_3 : decode cX3_says 3 = .ok (.aload_n 1, 1) := dk_43 (dk_at dksX3_says_0 3 rfl rfl)
theorem dX3_says_4 : decode cX3_says 4 = .ok (.invokevirtual 231, 3) := dk_182 0 231 (dk_at dksX3_says_0 4 rfl rfl)
theorem dX3_says_7 : decode cX3_says 7 = .ok (.if_icmp .ge 59, 3) := dk_162 0 59 (dk_at dksX3_says_0 7 rfl rfl)
theorem dX3_says_10 : decode cX3_says 10 = .ok (.aload_n 0, 1) := dk_42 (dk_at dksX3_says_0 10 rfl rfl)
theorem dX3_says_11 : decode cX3_says 11 = .ok (.getfield 235, 3) := dk_180 0 235 (dk_at dksX3_says_0 11 rfl rfl)
theorem dX3_says_14 : decode cX3_says 14 = .ok (.ifCond .ne 52, 3) := dk_154 0 52 (dk_at dksX3_says_0 14 rfl rfl)
theorem dX3_says_17 : decode cX3_says 17 = .ok (.aload_n 0, 1) := dk_42 (dk_at dksX3_says_0 17 rfl rfl)
theorem dX3_says_18 : decode cX3_says 18 = .ok (.aload_n 0, 1) := dk_42 (dk_at dksX3_says_0 18 rfl rfl)
theorem dX3_says_19 : decode cX3_says 19 = .ok (.iconst 0, 1) := dk_3 (dk_at dksX3_says_0 19 rfl rfl)
theorem dX3_says_20 : decode cX3_says 20 = .ok (.invokevirtual 239, 3) := dk_182 0 239 (dk_at dksX3_says_0 20 rfl rfl)
theorem dX3_says_23 : decode cX3_says 23 = .ok (.aload_n 1, 1) := dk_43 (dk_at dksX3_says_0 23 rfl rfl)
theorem dX3_says_24 : decode cX3_says 24 = .ok (.iload_n 3, 1) := dk_29 (dk_at dksX3_says_1 0 rfl rfl)
theorem dX3_says_25 : decode cX3_says 25 = .ok (.invokevirtual 242, 3) := dk_182 0 242 (dk_at dksX3_says_1 1 rfl rfl)
theorem dX3_says_28 : decode cX3_says 28 = .ok (.if_icmp .eq 7, 3) := dk_159 0 7 (dk_at dksX3_says_1 4 rfl rfl)
theorem dX3_says_31 : decode cX3_says 31 = .ok (.iconst 1, 1) := dk_4 (dk_at dksX3_says_1 7 rfl rfl)
theorem dX3_says_32 : decode cX3_says 32 = .ok (.goto 4, 3) := dk_167 0 4 (dk_at dksX3_says_1 8 rfl rfl)
theorem dX3_says_35 : decode cX3_says 35 = .ok (.iconst 0, 1) := dk_3 (dk_at dksX3_says_1 11 rfl rfl)
theorem dX3_says_36 : decode cX3_says 36 = .ok (.putfield 235, 3) := dk_181 0 235 (dk_at dksX3_says_1 12 rfl rfl)
theorem dX3_says_39 : decode cX3_says 39 = .ok (.aload_n 0, 1) := dk_42 (dk_at dksX3_says_1 15 rfl rfl)
theorem dX3_says_40 : decode cX3_says 40 = .ok (.dup, 1) := dk_89 (dk_at dksX3_says_1 16 rfl rfl)
theorem dX3_says_41 : decode cX3_says 41 = .ok (.getfield 225, 3) := dk_180 0 225 (dk_at dksX3_says_1 17 rfl rfl)
theorem dX3_says_44 : decode cX3_says 44 = .ok (.aload_n 0, 1) := dk_42 (dk_at dksX3_says_1 20 rfl rfl)
theorem dX3_says_45 : decode cX3_says 45 = .ok (.getfield 235, 3) := dk_180 0 235 (dk_at dksX3_says_1 21 rfl rfl)
theorem dX3_says_48 : decode cX3_says 48 = .ok (.ifCond .eq 7, 3) := dk_153 0 7 (dk_at dksX3_says_2 0 rfl rfl)
theorem dX3_says_51 : decode cX3_says 51 = .ok (.iconst 0, 1) := dk_3 (dk_at dksX3_says_2 3 rfl rfl)
theorem dX3_says_52 : decode cX3_says 52 = .ok (.goto 4, 3) := dk_167 0 4 (dk_at dksX3_says_2 4 rfl rfl)
theorem dX3_says_55 : decode cX3_says 55 = .ok (.iconst 1, 1) := dk_4 (dk_at dksX3_says_2 7 rfl rfl)
theorem dX3_says_56 : decode cX3_says 56 = .ok (.iadd, 1) := dk_96 (dk_at dksX3_says_2 8 rfl rfl)
theorem dX3_says_57 : decode cX3_says 57 = .ok (.putfield 225, 3) := dk_181 0 225 (dk_at dksX3_says_2 9 rfl rfl)
theorem dX3_says_60 : decode cX3_says 60 = .ok (.iinc 3 1, 3) := dk_132 3 1 (dk_at dksX3_says_2 12 rfl rfl)
theorem dX3_says_63 : decode cX3_says 63 = .ok (.goto (-61), 3) := dk_167 255 195 (dk_at dksX3_says_2 15 rfl rfl)
theorem dX3_says_66 : decode cX3_says 66 = .ok (.iconst 1, 1) := dk_4 (dk_at dksX3_says_2 18 rfl rfl)
theorem dX3_says_67 : decode cX3_says 67 = .ok (.istore_n 3, 1) := dk_62 (dk_at dksX3_says_2 19 rfl rfl)
theorem dX3_says_68 : decode cX3_says 68 = .ok (.iload_n 3, 1) := dk_29 (dk_at dksX3_says_2 20 rfl rfl)
theorem dX3_says_69 : decode cX3_says 69 = .ok (.iload_n 2, 1) := dk_28 (dk_at dksX3_says_2 21 rfl rfl)
theorem dX3_says_70 : decode cX3_says 70 = .ok (.if_icmp .gt 21, 3) := dk_163 0 21 (dk_at dksX3_says_3 0 rfl rfl)
theorem dX3_says_73 : decode cX3_says 73 = .ok (.aload_n 0, 1) := dk_42 (dk_at dksX3_says_3 3 rfl rfl)
theorem dX3_says_74 : decode cX3_says 74 = .ok (.getfield 235, 3) := dk_180 0 235 (dk_at dksX3_says_3 4 rfl rfl)
theorem dX3_says_77 : decode cX3_says 77 = .ok (.ifCond .ne 14, 3) := dk_154 0 14 (dk_at dksX3_says_3 7 rfl rfl)
theorem dX3_says_80 : decode cX3_says 80 = .ok (.aload_n 0, 1) := dk_42 (dk_at dksX3_says_3 10 rfl rfl)
theorem dX3_says_81 : decode cX3_says 81 = .ok (.iload_n 3, 1) := dk_29 (dk_at dksX3_says_3 11 rfl rfl)
theorem dX3_says_82 : decode cX3_says 82 = .ok (.invokevirtual 246, 3) := dk_182 0 246 (dk_at dksX3_says_3 12 rfl rfl)
theorem dX3_says_85 : decode cX3_says 85 = .ok (.iinc 3 1, 3) := dk_132 3 1 (dk_at dksX3_says_3 15 rfl rfl)
theorem dX3_says_88 : decode cX3_says 88 = .ok (.goto (-20), 3) := dk_167 255 236 (dk_at dksX3_says_3 18 rfl rfl)
theorem dX3_says_91 : decode cX3_says 91 = .ok (.return_, 1) := dk_177 (dk_at dksX3_says_3 21 rfl rfl)
abbrev cX3_number : ByteArray := prog_14_method_85_code
def yX3_number : MethodName := ⟨RX3, "number", "(I)V"⟩
def dkwX3_number_6 : List UInt8 := [180, 0, 249, 104, 27, 96, 28, 79, 177]
abbrev dktX3_number_6 : List UInt8 := dkwX3_number_6 ++ []
def dkwX3_number_5 : List UInt8 := [182, 0, 239, 96, 16, 48, 100, 61, 42, 89, 180, 0, 225, 4, 96, 181, 0, 225, 42, 180, 0, 31, 7, 42]
abbrev dktX3_number_5 : List UInt8 := dkwX3_number_5 ++ dktX3_number_6
def dkwX3_number_4 : List UInt8 := [181, 0, 225, 42, 3, 182, 0, 239, 16, 48, 16, 57, 184, 0, 78, 153, 0, 27, 16, 10, 28, 104, 42, 3]
abbrev dktX3_number_4 : List UInt8 := dkwX3_number_4 ++ dktX3_number_5
def dkwX3_number_3 : List UInt8 := [180, 0, 235, 153, 0, 4, 177, 42, 3, 182, 0, 239, 16, 48, 100, 61, 42, 89, 180, 0, 225, 4, 96]
abbrev dktX3_number_3 : List UInt8 := dkwX3_number_3 ++ dktX3_number_4
def dkwX3_number_2 : List UInt8 := [42, 3, 182, 0, 239, 16, 48, 16, 57, 184, 0, 78, 154, 0, 7, 4, 167, 0, 4, 3, 181, 0, 235, 42]
abbrev dktX3_number_2 : List UInt8 := dkwX3_number_2 ++ dktX3_number_3
def dkwX3_number_1 : List UInt8 := [42, 180, 0, 235, 153, 0, 7, 3, 167, 0, 4, 4, 96, 181, 0, 225, 42, 42, 180, 0, 235, 154, 0, 18]
abbrev dktX3_number_1 : List UInt8 := dkwX3_number_1 ++ dktX3_number_2
def dkwX3_number_0 : List UInt8 := [42, 42, 3, 182, 0, 239, 16, 32, 159, 0, 7, 4, 167, 0, 4, 3, 181, 0, 235, 42, 89, 180, 0, 225]
abbrev dktX3_number_0 : List UInt8 := dkwX3_number_0 ++ dktX3_number_1
theorem dksX3_number_0 : cX3_number.data.toList.drop 0 = dktX3_number_0 := by decide +kernel
theorem dksX3_number_1 : cX3_number.data.toList.drop 24 = dktX3_number_1 := dk_seg dksX3_number_0 24 rfl rfl
theorem dksX3_number_2 : cX3_number.data.toList.drop 48 = dktX3_number_2 := dk_seg dksX3_number_1 24 rfl rfl
theorem dksX3_number_3 : cX3_number.data.toList.drop 72 = dktX3_number_3 := dk_seg dksX3_number_2 24 rfl rfl
theorem dksX3_number_4 : cX3_number.data.toList.drop 95 = dktX3_number_4 := dk_seg dksX3_number_3 23 rfl rfl
theorem dksX3_number_5 : cX3_number.data.toList.drop 119 = dktX3_number_5 := dk_seg dksX3_number_4 24 rfl rfl
theorem dksX3_number_6 : cX3_number.data.toList.drop 143 = dktX3_number_6 := dk_seg dksX3_number_5 24 rfl rfl
theorem dX3_number_0 : decode cX3_number 0 = .ok (.aload_n 0, 1) := dk_42 (dk_at dksX3_number_0 0 rfl rfl)
theorem dX3_number_1 : decode cX3_number 1 = .ok (.aload_n 0, 1) := dk_42 (dk_at dksX3_number_0 1 rfl rfl)
theorem dX3_number_2 : decode cX3_number 2 = .ok (.iconst 0, 1) := dk_3 (dk_at dksX3_number_0 2 rfl rfl)
theorem dX3_number_3 : decode cX3_number 3 = .ok (.invokevirtual 239, 3) := dk_182 0 239 (dk_at dksX3_number_0 3 rfl rfl)
theorem dX3_number_6 : decode cX3_number 6 = .ok (.bipush 32, 2) := dk_16 32 (dk_at dksX3_number_0 6 rfl rfl)
theorem dX3_number_8 : decode cX3_number 8 = .ok (.if_icmp .eq 7, 3) := dk_159 0 7 (dk_at dksX3_number_0 8 rfl rfl)
theorem dX3_number_11 : decode cX3_number 11 = .ok (.iconst 1, 1) := dk_4 (dk_at dksX3_number_0 11 rfl rfl)
theorem dX3_number_12 : decode cX3_number 12 = .ok (.goto 4, 3) := dk_167 0 4 (dk_at dksX3_number_0 12 rfl rfl)
theorem dX3_number_15 : decode cX3_number 15 = .ok (.iconst 0, 1) := dk_3 (dk_at dksX3_number_0 15 rfl rfl)
theorem dX3_number_16 : decode cX3_number 16 = .ok (.putfield 235, 3) := dk_181 0 235 (dk_at dksX3_number_0 16 rfl rfl)
theorem dX3_number_19 : decode cX3_number 19 = .ok (.aload_n 0, 1) := dk_42 (dk_at dksX3_number_0 19 rfl rfl)
theorem dX3_number_20 : decode cX3_number 20 = .ok (.dup, 1) := dk_89 (dk_at dksX3_number_0 20 rfl rfl)
theorem dX3_number_21 : decode cX3_number 21 = .ok (.getfield 225, 3) := dk_180 0 225 (dk_at dksX3_number_0 21 rfl rfl)
theorem dX3_number_24 : decode cX3_number 24 = .ok (.aload_n 0, 1) := dk_42 (dk_at dksX3_number_1 0 rfl rfl)
theorem dX3_number_25 : decode cX3_number 25 = .ok (.getfield 235, 3) := dk_180 0 235 (dk_at dksX3_number_1 1 rfl rfl)
theorem dX3_number_28 : decode cX3_number 28 = .ok (.ifCond .eq 7, 3) := dk_153 0 7 (dk_at dksX3_number_1 4 rfl rfl)
theorem dX3_number_31 : decode cX3_number 31 = .ok (.iconst 0, 1) := dk_3 (dk_at dksX3_number_1 7 rfl rfl)
theorem dX3_number_32 : decode cX3_number 32 = .ok (.goto 4, 3) := dk_167 0 4 (dk_at dksX3_number_1 8 rfl rfl)
theorem dX3_number_35 : decode cX3_number 35 = .ok (.iconst 1, 1) := dk_4 (dk_at dksX3_number_1 11 rfl rfl)
theorem dX3_number_36 : decode cX3_number 36 = .ok (.iadd, 1) := dk_96 (dk_at dksX3_number_1 12 rfl rfl)
theorem dX3_number_37 : decode cX3_number 37 = .ok (.putfield 225, 3) := dk_181 0 225 (dk_at dksX3_number_1 13 rfl rfl)
theorem dX3_number_40 : decode cX3_number 40 = .ok (.aload_n 0, 1) := dk_42 (dk_at dksX3_number_1 16 rfl rfl)
theorem dX3_number_41 : decode cX3_number 41 = .ok (.aload_n 0, 1) := dk_42 (dk_at dksX3_number_1 17 rfl rfl)
theorem dX3_number_42 : decode cX3_number 42 = .ok (.getfield 235, 3) := dk_180 0 235 (dk_at dksX3_number_1 18 rfl rfl)
theorem dX3_number_45 : decode cX3_number 45 = .ok (.ifCond .ne 18, 3) := dk_154 0 18 (dk_at dksX3_number_1 21 rfl rfl)
theorem dX3_number_48 : decode cX3_number 48 = .ok (.aload_n 0, 1) := dk_42 (dk_at dksX3_number_2 0 rfl rfl)
theorem dX3_number_49 : decode cX3_number 49 = .ok (.iconst 0, 1) := dk_3 (dk_at dksX3_number_2 1 rfl rfl)
theorem dX3_number_50 : decode cX3_number 50 = .ok (.invokevirtual 239, 3) := dk_182 0 239 (dk_at dksX3_number_2 2 rfl rfl)
theorem dX3_number_53 : decode cX3_number 53 = .ok (.bipush 48, 2) := dk_16 48 (dk_at dksX3_number_2 5 rfl rfl)
theorem dX3_number_55 : decode cX3_number 55 = .ok (.bipush 57, 2) := dk_16 57 (dk_at dksX3_number_2 7 rfl rfl)
theorem dX3_number_57 : decode cX3_number 57 = .ok (.invokestatic 78, 3) := dk_184 0 78 (dk_at dksX3_number_2 9 rfl rfl)
theorem dX3_number_60 : decode cX3_number 60 = .ok (.ifCond .ne 7, 3) := dk_154 0 7 (dk_at dksX3_number_2 12 rfl rfl)
theorem dX3_number_63 : decode cX3_number 63 = .ok (.iconst 1, 1) := dk_4 (dk_at dksX3_number_2 15 rfl rfl)
theorem dX3_number_64 : decode cX3_number 64 = .ok (.goto 4, 3) := dk_167 0 4 (dk_at dksX3_number_2 16 rfl rfl)
theorem dX3_number_67 : decode cX3_number 67 = .ok (.iconst 0, 1) := dk_3 (dk_at dksX3_number_2 19 rfl rfl)
theorem dX3_number_68 : decode cX3_number 68 = .ok (.putfield 235, 3) := dk_181 0 235 (dk_at dksX3_number_2 20 rfl rfl)
theorem dX3_number_71 : decode cX3_number 71 = .ok (.aload_n 0, 1) := dk_42 (dk_at dksX3_number_2 23 rfl rfl)
theorem dX3_number_72 : decode cX3_number 72 = .ok (.getfield 235, 3) := dk_180 0 235 (dk_at dksX3_number_3 0 rfl rfl)
theorem dX3_number_75 : decode cX3_number 75 = .ok (.ifCond .eq 4, 3) := dk_153 0 4 (dk_at dksX3_number_3 3 rfl rfl)
theorem dX3_number_78 : decode cX3_number 78 = .ok (.return_, 1) := dk_177 (dk_at dksX3_number_3 6 rfl rfl)
theorem dX3_number_79 : decode cX3_number 79 = .ok (.aload_n 0, 1) := dk_42 (dk_at dksX3_number_3 7 rfl rfl)
theorem dX3_number_80 : decode cX3_number 80 = .ok (.iconst 0, 1) := dk_3 (dk_at dksX3_number_3 8 rfl rfl)
theorem dX3_number_81 : decode cX3_number 81 = .ok (.invokevirtual 239, 3) := dk_182 0 239 (dk_at dksX3_number_3 9 rfl rfl)
theorem dX3_number_84 : decode cX3_number 84 = .ok (.bipush 48, 2) := dk_16 48 (dk_at dksX3_number_3 12 rfl rfl)
theorem dX3_number_86 : decode cX3_number 86 = .ok (.isub, 1) := dk_100 (dk_at dksX3_number_3 14 rfl rfl)
theorem dX3_number_87 : decode cX3_number 87 = .ok (.istore_n 2, 1) := dk_61 (dk_at dksX3_number_3 15 rfl rfl)
theorem dX3_number_88 : decode cX3_number 88 = .ok (.aload_n 0, 1) := dk_42 (dk_at dksX3_number_3 16 rfl rfl)
theorem dX3_number_89 : decode cX3_number 89 = .ok (.dup, 1) := dk_89 (dk_at dksX3_number_3 17 rfl rfl)
theorem dX3_number_90 : decode cX3_number 90 = .ok (.getfield 225, 3) := dk_180 0 225 (dk_at dksX3_number_3 18 rfl rfl)
theorem dX3_number_93 : decode cX3_number 93 = .ok (.iconst 1, 1) := dk_4 (dk_at dksX3_number_3 21 rfl rfl)
theorem dX3_number_94 : decode cX3_number 94 = .ok (.iadd, 1) := dk_96 (dk_at dksX3_number_3 22 rfl rfl)
theorem dX3_number_95 : decode cX3_number 95 = .ok (.putfield 225, 3) := dk_181 0 225 (dk_at dksX3_number_4 0 rfl rfl)
theorem dX3_number_98 : decode cX3_number 98 = .ok (.aload_n 0, 1) := dk_42 (dk_at dksX3_number_4 3 rfl rfl)
theorem dX3_number_99 : decode cX3_number 99 = .ok (.iconst 0, 1) := dk_3 (dk_at dksX3_number_4 4 rfl rfl)
theorem dX3_number_100 : decode cX3_number 100 = .ok (.invokevirtual 239, 3) := dk_182 0 239 (dk_at dksX3_number_4 5 rfl rfl)
theorem dX3_number_103 : decode cX3_number 103 = .ok (.bipush 48, 2) := dk_16 48 (dk_at dksX3_number_4 8 rfl rfl)
theorem dX3_number_105 : decode cX3_number 105 = .ok (.bipush 57, 2) := dk_16 57 (dk_at dksX3_number_4 10 rfl rfl)
theorem dX3_number_107 : decode cX3_number 107 = .ok (.invokestatic 78, 3) := dk_184 0 78 (dk_at dksX3_number_4 12 rfl rfl)
theorem dX3_number_110 : decode cX3_number 110 = .ok (.ifCond .eq 27, 3) := dk_153 0 27 (dk_at dksX3_number_4 15 rfl rfl)
theorem dX3_number_113 : decode cX3_number 113 = .ok (.bipush 10, 2) := dk_16 10 (dk_at dksX3_number_4 18 rfl rfl)
theorem dX3_number_115 : decode cX3_number 115 = .ok (.iload_n 2, 1) := dk_28 (dk_at dksX3_number_4 20 rfl rfl)
theorem dX3_number_116 : decode cX3_number 116 = .ok (.imul, 1) := dk_104 (dk_at dksX3_number_4 21 rfl rfl)
theorem dX3_number_117 : decode cX3_number 117 = .ok (.aload_n 0, 1) := dk_42 (dk_at dksX3_number_4 22 rfl rfl)
theorem dX3_number_118 : decode cX3_number 118 = .ok (.iconst 0, 1) := dk_3 (dk_at dksX3_number_4 23 rfl rfl)
theorem dX3_number_119 : decode cX3_number 119 = .ok (.invokevirtual 239, 3) := dk_182 0 239 (dk_at dksX3_number_5 0 rfl rfl)
theorem dX3_number_122 : decode cX3_number 122 = .ok (.iadd, 1) := dk_96 (dk_at dksX3_number_5 3 rfl rfl)
theorem dX3_number_123 : decode cX3_number 123 = .ok (.bipush 48, 2) := dk_16 48 (dk_at dksX3_number_5 4 rfl rfl)
theorem dX3_number_125 : decode cX3_number 125 = .ok (.isub, 1) := dk_100 (dk_at dksX3_number_5 6 rfl rfl)
theorem dX3_number_126 : decode cX3_number 126 = .ok (.istore_n 2, 1) := dk_61 (dk_at dksX3_number_5 7 rfl rfl)
theorem dX3_number_127 : decode cX3_number 127 = .ok (.aload_n 0, 1) := dk_42 (dk_at dksX3_number_5 8 rfl rfl)
theorem dX3_number_128 : decode cX3_number 128 = .ok (.dup, 1) := dk_89 (dk_at dksX3_number_5 9 rfl rfl)
theorem dX3_number_129 : decode cX3_number 129 = .ok (.getfield 225, 3) := dk_180 0 225 (dk_at dksX3_number_5 10 rfl rfl)
theorem dX3_number_132 : decode cX3_number 132 = .ok (.iconst 1, 1) := dk_4 (dk_at dksX3_number_5 13 rfl rfl)
theorem dX3_number_133 : decode cX3_number 133 = .ok (.iadd, 1) := dk_96 (dk_at dksX3_number_5 14 rfl rfl)
theorem dX3_number_134 : decode cX3_number 134 = .ok (.putfield 225, 3) := dk_181 0 225 (dk_at dksX3_number_5 15 rfl rfl)
theorem dX3_number_137 : decode cX3_number 137 = .ok (.aload_n 0, 1) := dk_42 (dk_at dksX3_number_5 18 rfl rfl)
theorem dX3_number_138 : decode cX3_number 138 = .ok (.getfield 31, 3) := dk_180 0 31 (dk_at dksX3_number_5 19 rfl rfl)
theorem dX3_number_141 : decode cX3_number 141 = .ok (.iconst 4, 1) := dk_7 (dk_at dksX3_number_5 22 rfl rfl)
theorem dX3_number_142 : decode cX3_number 142 = .ok (.aload_n 0, 1) := dk_42 (dk_at dksX3_number_5 23 rfl rfl)
theorem dX3_number_143 : decode cX3_number 143 = .ok (.getfield 249, 3) := dk_180 0 249 (dk_at dksX3_number_6 0 rfl rfl)
theorem dX3_number_146 : decode cX3_number 146 = .ok (.imul, 1) := dk_104 (dk_at dksX3_number_6 3 rfl rfl)
theorem dX3_number_147 : decode cX3_number 147 = .ok (.iload_n 1, 1) := dk_27 (dk_at dksX3_number_6 4 rfl rfl)
theorem dX3_number_148 : decode cX3_number 148 = .ok (.iadd, 1) := dk_96 (dk_at dksX3_number_6 5 rfl rfl)
theorem dX3_number_149 : decode cX3_number 149 = .ok (.iload_n 2, 1) := dk_28 (dk_at dksX3_number_6 6 rfl rfl)
theorem dX3_number_150 : decode cX3_number 150 = .ok (.iastore, 1) := dk_79 (dk_at dksX3_number_6 7 rfl rfl)
theorem dX3_number_151 : decode cX3_number 151 = .ok (.return_, 1) := dk_177 (dk_at dksX3_number_6 8 rfl rfl)
abbrev cX3_does : ByteArray := prog_14_method_88_code
def yX3_does : MethodName := ⟨RX3, "does", "(I)I"⟩
def dkwX3_does_5 : List UInt8 := [42, 28, 29, 182, 0, 197, 172, 42, 28, 182, 0, 200, 172]
abbrev dktX3_does_5 : List UInt8 := dkwX3_does_5 ++ []
def dkwX3_does_4 : List UInt8 := [182, 0, 158, 172, 42, 28, 182, 0, 161, 172, 42, 28, 29, 21, 4, 182, 0, 167, 172, 42, 182, 0, 179, 172]
abbrev dktX3_does_4 : List UInt8 := dkwX3_does_4 ++ dktX3_does_5
def dkwX3_does_3 : List UInt8 := [42, 28, 29, 21, 4, 182, 0, 152, 172, 42, 28, 182, 0, 164, 172, 42, 28, 182, 0, 182, 172, 42, 28, 29]
abbrev dktX3_does_3 : List UInt8 := dkwX3_does_3 ++ dktX3_does_4
def dkwX3_does_2 : List UInt8 := [170, 0, 0, 0, 0, 137, 0, 0, 0, 100, 0, 0, 0, 116, 0, 0, 0, 130, 0, 0, 0, 137, 0, 0, 0, 137, 0, 0, 0, 137, 0, 0, 0, 103, 0, 0, 0, 137, 0, 0, 0, 137, 0, 0, 0, 91, 0, 0, 0, 110, 0, 0, 0, 116, 0, 0, 0, 137, 0, 0, 0, 137, 0, 0, 0, 137, 0, 0, 0, 137, 0, 0, 0, 125, 0, 0, 0, 82, 0, 0, 0, 97]
abbrev dktX3_does_2 : List UInt8 := dkwX3_does_2 ++ dktX3_does_3
def dkwX3_does_1 : List UInt8 := [180, 0, 31, 7, 27, 104, 6, 96, 46, 54, 4, 42, 180, 0, 31, 7, 27, 104, 46]
abbrev dktX3_does_1 : List UInt8 := dkwX3_does_1 ++ dktX3_does_2
def dkwX3_does_0 : List UInt8 := [42, 180, 0, 31, 7, 27, 104, 4, 96, 46, 61, 42, 180, 0, 31, 7, 27, 104, 5, 96, 46, 62, 42]
abbrev dktX3_does_0 : List UInt8 := dkwX3_does_0 ++ dktX3_does_1
theorem dksX3_does_0 : cX3_does.data.toList.drop 0 = dktX3_does_0 := by decide +kernel
theorem dksX3_does_1 : cX3_does.data.toList.drop 23 = dktX3_does_1 := dk_seg dksX3_does_0 23 rfl rfl
theorem dksX3_does_2 : cX3_does.data.toList.drop 42 = dktX3_does_2 := dk_seg dksX3_does_1 19 rfl rfl
theorem dksX3_does_3 : cX3_does.data.toList.drop 124 = dktX3_does_3 := dk_seg dksX3_does_2 82 rfl rfl
theorem dksX3_does_4 : cX3_does.data.toList.drop 148 = dktX3_does_4 := dk_seg dksX3_does_3 24 rfl rfl
theorem dksX3_does_5 : cX3_does.data.toList.drop 172 = dktX3_does_5 := dk_seg dksX3_does_4 24 rfl rfl
theorem dX3_does_0 : decode cX3_does 0 = .ok (.aload_n 0, 1) := dk_42 (dk_at dksX3_does_0 0 rfl rfl)
theorem dX3_does_1 : decode cX3_does 1 = .ok (.getfield 31, 3) := dk_180 0 31 (dk_at dksX3_does_0 1 rfl rfl)
theorem dX3_does_4 : decode cX3_does 4 = .ok (.iconst 4, 1) := dk_7 (dk_at dksX3_does_0 4 rfl rfl)
theorem dX3_does_5 : decode cX3_does 5 = .ok (.iload_n 1, 1) := dk_27 (dk_at dksX3_does_0 5 rfl rfl)
theorem dX3_does_6 : decode cX3_does 6 = .ok (.imul, 1) := dk_104 (dk_at dksX3_does_0 6 rfl rfl)
theorem dX3_does_7 : decode cX3_does 7 = .ok (.iconst 1, 1) := dk_4 (dk_at dksX3_does_0 7 rfl rfl)
theorem dX3_does_8 : decode cX3_does 8 = .ok (.iadd, 1) := dk_96 (dk_at dksX3_does_0 8 rfl rfl)
theorem dX3_does_9 : decode cX3_does 9 = .ok (.iaload, 1) := dk_46 (dk_at dksX3_does_0 9 rfl rfl)
theorem dX3_does_10 : decode cX3_does 10 = .ok (.istore_n 2, 1) := dk_61 (dk_at dksX3_does_0 10 rfl rfl)
theorem dX3_does_11 : decode cX3_does 11 = .ok (.aload_n 0, 1) := dk_42 (dk_at dksX3_does_0 11 rfl rfl)
theorem dX3_does_12 : decode cX3_does 12 = .ok (.getfield 31, 3) := dk_180 0 31 (dk_at dksX3_does_0 12 rfl rfl)
theorem dX3_does_15 : decode cX3_does 15 = .ok (.iconst 4, 1) := dk_7 (dk_at dksX3_does_0 15 rfl rfl)
theorem dX3_does_16 : decode cX3_does 16 = .ok (.iload_n 1, 1) := dk_27 (dk_at dksX3_does_0 16 rfl rfl)
theorem dX3_does_17 : decode cX3_does 17 = .ok (.imul, 1) := dk_104 (dk_at dksX3_does_0 17 rfl rfl)
theorem dX3_does_18 : decode cX3_does 18 = .ok (.iconst 2, 1) := dk_5 (dk_at dksX3_does_0 18 rfl rfl)
theorem dX3_does_19 : decode cX3_does 19 = .ok (.iadd, 1) := dk_96 (dk_at dksX3_does_0 19 rfl rfl)
theorem dX3_does_20 : decode cX3_does 20 = .ok (.iaload, 1) := dk_46 (dk_at dksX3_does_0 20 rfl rfl)
theorem dX3_does_21 : decode cX3_does 21 = .ok (.istore_n 3, 1) := dk_62 (dk_at dksX3_does_0 21 rfl rfl)
theorem dX3_does_22 : decode cX3_does 22 = .ok (.aload_n 0, 1) := dk_42 (dk_at dksX3_does_0 22 rfl rfl)
theorem dX3_does_23 : decode cX3_does 23 = .ok (.getfield 31, 3) := dk_180 0 31 (dk_at dksX3_does_1 0 rfl rfl)
theorem dX3_does_26 : decode cX3_does 26 = .ok (.iconst 4, 1) := dk_7 (dk_at dksX3_does_1 3 rfl rfl)
theorem dX3_does_27 : decode cX3_does 27 = .ok (.iload_n 1, 1) := dk_27 (dk_at dksX3_does_1 4 rfl rfl)
theorem dX3_does_28 : decode cX3_does 28 = .ok (.imul, 1) := dk_104 (dk_at dksX3_does_1 5 rfl rfl)
theorem dX3_does_29 : decode cX3_does 29 = .ok (.iconst 3, 1) := dk_6 (dk_at dksX3_does_1 6 rfl rfl)
theorem dX3_does_30 : decode cX3_does 30 = .ok (.iadd, 1) := dk_96 (dk_at dksX3_does_1 7 rfl rfl)
theorem dX3_does_31 : decode cX3_does 31 = .ok (.iaload, 1) := dk_46 (dk_at dksX3_does_1 8 rfl rfl)
theorem dX3_does_32 : decode cX3_does 32 = .ok (.istore 4, 2) := dk_54 4 (dk_at dksX3_does_1 9 rfl rfl)
theorem dX3_does_34 : decode cX3_does 34 = .ok (.aload_n 0, 1) := dk_42 (dk_at dksX3_does_1 11 rfl rfl)
theorem dX3_does_35 : decode cX3_does 35 = .ok (.getfield 31, 3) := dk_180 0 31 (dk_at dksX3_does_1 12 rfl rfl)
theorem dX3_does_38 : decode cX3_does 38 = .ok (.iconst 4, 1) := dk_7 (dk_at dksX3_does_1 15 rfl rfl)
theorem dX3_does_39 : decode cX3_does 39 = .ok (.iload_n 1, 1) := dk_27 (dk_at dksX3_does_1 16 rfl rfl)
theorem dX3_does_40 : decode cX3_does 40 = .ok (.imul, 1) := dk_104 (dk_at dksX3_does_1 17 rfl rfl)
theorem dX3_does_41 : decode cX3_does 41 = .ok (.iaload, 1) := dk_46 (dk_at dksX3_does_1 18 rfl rfl)
theorem dX3_does_42 : decode cX3_does 42 = .ok (.tableswitch 137 100 116 #[130, 137, 137, 137, 103, 137, 137, 91, 110, 116, 137, 137, 137, 137, 125, 82, 97], 82) := by decide +kernel
theorem dX3_does_124 : decode cX3_does 124 = .ok (.aload_n 0, 1) := dk_42 (dk_at dksX3_does_3 0 rfl rfl)
theorem dX3_does_125 : decode cX3_does 125 = .ok (.iload_n 2, 1) := dk_28 (dk_at dksX3_does_3 1 rfl rfl)
theorem dX3_does_126 : decode cX3_does 126 = .ok (.iload_n 3, 1) := dk_29 (dk_at dksX3_does_3 2 rfl rfl)
theorem dX3_does_127 : decode cX3_does 127 = .ok (.iload 4, 2) := dk_21 4 (dk_at dksX3_does_3 3 rfl rfl)
theorem dX3_does_129 : decode cX3_does 129 = .ok (.invokevirtual 152, 3) := dk_182 0 152 (dk_at dksX3_does_3 5 rfl rfl)
theorem dX3_does_132 : decode cX3_does 132 = .ok (.ireturn, 1) := dk_172 (dk_at dksX3_does_3 8 rfl rfl)
theorem dX3_does_133 : decode cX3_does 133 = .ok (.aload_n 0, 1) := dk_42 (dk_at dksX3_does_3 9 rfl rfl)
theorem dX3_does_134 : decode cX3_does 134 = .ok (.iload_n 2, 1) := dk_28 (dk_at dksX3_does_3 10 rfl rfl)
theorem dX3_does_135 : decode cX3_does 135 = .ok (.invokevirtual 164, 3) := dk_182 0 164 (dk_at dksX3_does_3 11 rfl rfl)
theorem dX3_does_138 : decode cX3_does 138 = .ok (.ireturn, 1) := dk_172 (dk_at dksX3_does_3 14 rfl rfl)
theorem dX3_does_139 : decode cX3_does 139 = .ok (.aload_n 0, 1) := dk_42 (dk_at dksX3_does_3 15 rfl rfl)
theorem dX3_does_140 : decode cX3_does 140 = .ok (.iload_n 2, 1) := dk_28 (dk_at dksX3_does_3 16 rfl rfl)
theorem dX3_does_141 : decode cX3_does 141 = .ok (.invokevirtual 182, 3) := dk_182 0 182 (dk_at dksX3_does_3 17 rfl rfl)
theorem dX3_does_144 : decode cX3_does 144 = .ok (.ireturn, 1) := dk_172 (dk_at dksX3_does_3 20 rfl rfl)
theorem dX3_does_145 : decode cX3_does 145 = .ok (.aload_n 0, 1) := dk_42 (dk_at dksX3_does_3 21 rfl rfl)
theorem dX3_does_146 : decode cX3_does 146 = .ok (.iload_n 2, 1) := dk_28 (dk_at dksX3_does_3 22 rfl rfl)
theorem dX3_does_147 : decode cX3_does 147 = .ok (.iload_n 3, 1) := dk_29 (dk_at dksX3_does_3 23 rfl rfl)
theorem dX3_does_148 : decode cX3_does 148 = .ok (.invokevirtual 158, 3) := dk_182 0 158 (dk_at dksX3_does_4 0 rfl rfl)
theorem dX3_does_151 : decode cX3_does 151 = .ok (.ireturn, 1) := dk_172 (dk_at dksX3_does_4 3 rfl rfl)
theorem dX3_does_152 : decode cX3_does 152 = .ok (.aload_n 0, 1) := dk_42 (dk_at dksX3_does_4 4 rfl rfl)
theorem dX3_does_153 : decode cX3_does 153 = .ok (.iload_n 2, 1) := dk_28 (dk_at dksX3_does_4 5 rfl rfl)
theorem dX3_does_154 : decode cX3_does 154 = .ok (.invokevirtual 161, 3) := dk_182 0 161 (dk_at dksX3_does_4 6 rfl rfl)
theorem dX3_does_157 : decode cX3_does 157 = .ok (.ireturn, 1) := dk_172 (dk_at dksX3_does_4 9 rfl rfl)
theorem dX3_does_158 : decode cX3_does 158 = .ok (.aload_n 0, 1) := dk_42 (dk_at dksX3_does_4 10 rfl rfl)
theorem dX3_does_159 : decode cX3_does 159 = .ok (.iload_n 2, 1) := dk_28 (dk_at dksX3_does_4 11 rfl rfl)
theorem dX3_does_160 : decode cX3_does 160 = .ok (.iload_n 3, 1) := dk_29 (dk_at dksX3_does_4 12 rfl rfl)
theorem dX3_does_161 : decode cX3_does 161 = .ok (.iload 4, 2) := dk_21 4 (dk_at dksX3_does_4 13 rfl rfl)
theorem dX3_does_163 : decode cX3_does 163 = .ok (.invokevirtual 167, 3) := dk_182 0 167 (dk_at dksX3_does_4 15 rfl rfl)
theorem dX3_does_166 : decode cX3_does 166 = .ok (.ireturn, 1) := dk_172 (dk_at dksX3_does_4 18 rfl rfl)
theorem dX3_does_167 : decode cX3_does 167 = .ok (.aload_n 0, 1) := dk_42 (dk_at dksX3_does_4 19 rfl rfl)
theorem dX3_does_168 : decode cX3_does 168 = .ok (.invokevirtual 179, 3) := dk_182 0 179 (dk_at dksX3_does_4 20 rfl rfl)
theorem dX3_does_171 : decode cX3_does 171 = .ok (.ireturn, 1) := dk_172 (dk_at dksX3_does_4 23 rfl rfl)
theorem dX3_does_172 : decode cX3_does 172 = .ok (.aload_n 0, 1) := dk_42 (dk_at dksX3_does_5 0 rfl rfl)
theorem dX3_does_173 : decode cX3_does 173 = .ok (.iload_n 2, 1) := dk_28 (dk_at dksX3_does_5 1 rfl rfl)
theorem dX3_does_174 : decode cX3_does 174 = .ok (.iload_n 3, 1) := dk_29 (dk_at dksX3_does_5 2 rfl rfl)
theorem dX3_does_175 : decode cX3_does 175 = .ok (.invokevirtual 197, 3) := dk_182 0 197 (dk_at dksX3_does_5 3 rfl rfl)
theorem dX3_does_178 : decode cX3_does 178 = .ok (.ireturn, 1) := dk_172 (dk_at dksX3_does_5 6 rfl rfl)
theorem dX3_does_179 : decode cX3_does 179 = .ok (.aload_n 0, 1) := dk_42 (dk_at dksX3_does_5 7 rfl rfl)
theorem dX3_does_180 : decode cX3_does 180 = .ok (.iload_n 2, 1) := dk_28 (dk_at dksX3_does_5 8 rfl rfl)
theorem dX3_does_181 : decode cX3_does 181 = .ok (.invokevirtual 200, 3) := dk_182 0 200 (dk_at dksX3_does_5 9 rfl rfl)
theorem dX3_does_184 : decode cX3_does 184 = .ok (.ireturn, 1) := dk_172 (dk_at dksX3_does_5 12 rfl rfl)
abbrev cX3_errorPosition : ByteArray := prog_14_method_90_code
def yX3_errorPosition : MethodName := ⟨RX3, "errorPosition", "()I"⟩
def dkwX3_errorPosition_1 : List UInt8 := [180, 0, 43, 172]
abbrev dktX3_errorPosition_1 : List UInt8 := dkwX3_errorPosition_1 ++ []
def dkwX3_errorPosition_0 : List UInt8 := [42, 3, 181, 0, 53, 42, 180, 0, 43, 2, 160, 0, 11, 42, 4, 182, 0, 69, 167, 0, 7, 42]
abbrev dktX3_errorPosition_0 : List UInt8 := dkwX3_errorPosition_0 ++ dktX3_errorPosition_1
theorem dksX3_errorPosition_0 : cX3_errorPosition.data.toList.drop 0 = dktX3_errorPosition_0 := by decide +kernel
theorem dksX3_errorPosition_1 : cX3_errorPosition.data.toList.drop 22 = dktX3_errorPosition_1 := dk_seg dksX3_errorPosition_0 22 rfl rfl
theorem dX3_errorPosition_0 : decode cX3_errorPosition 0 = .ok (.aload_n 0, 1) := dk_42 (dk_at dksX3_errorPosition_0 0 rfl rfl)
theorem dX3_errorPosition_1 : decode cX3_errorPosition 1 = .ok (.iconst 0, 1) := dk_3 (dk_at dksX3_errorPosition_0 1 rfl rfl)
theorem dX3_errorPosition_2 : decode cX3_errorPosition 2 = .ok (.putfield 53, 3) := dk_181 0 53 (dk_at dksX3_errorPosition_0 2 rfl rfl)
theorem dX3_errorPosition_5 : decode cX3_errorPosition 5 = .ok (.aload_n 0, 1) := dk_42 (dk_at dksX3_errorPosition_0 5 rfl rfl)
theorem dX3_errorPosition_6 : decode cX3_errorPosition 6 = .ok (.getfield 43, 3) := dk_180 0 43 (dk_at dksX3_errorPosition_0 6 rfl rfl)
theorem dX3_errorPosition_9 : decode cX3_errorPosition 9 = .ok (.iconst (-1), 1) := dk_2 (dk_at dksX3_errorPosition_0 9 rfl rfl)
theorem dX3_errorPosition_10 : decode cX3_errorPosition 10 = .ok (.if_icmp .ne 11, 3) := dk_160 0 11 (dk_at dksX3_errorPosition_0 10 rfl rfl)
theorem dX3_errorPosition_13 : decode cX3_errorPosition 13 = .ok (.aload_n 0, 1) := dk_42 (dk_at dksX3_errorPosition_0 13 rfl rfl)
theorem dX3_errorPosition_14 : decode cX3_errorPosition 14 = .ok (.iconst 1, 1) := dk_4 (dk_at dksX3_errorPosition_0 14 rfl rfl)
theorem dX3_errorPosition_15 : decode cX3_errorPosition 15 = .ok (.invokevirtual 69, 3) := dk_182 0 69 (dk_at dksX3_errorPosition_0 15 rfl rfl)
theorem dX3_errorPosition_18 : decode cX3_errorPosition 18 = .ok (.goto 7, 3) := dk_167 0 7 (dk_at dksX3_errorPosition_0 18 rfl rfl)
theorem dX3_errorPosition_21 : decode cX3_errorPosition 21 = .ok (.aload_n 0, 1) := dk_42 (dk_at dksX3_errorPosition_0 21 rfl rfl)
theorem dX3_errorPosition_22 : decode cX3_errorPosition 22 = .ok (.getfield 43, 3) := dk_180 0 43 (dk_at dksX3_errorPosition_1 0 rfl rfl)
theorem dX3_errorPosition_25 : decode cX3_errorPosition 25 = .ok (.ireturn, 1) := dk_172 (dk_at dksX3_errorPosition_1 3 rfl rfl)
abbrev cX3_refusedItem : ByteArray := prog_14_method_91_code
def yX3_refusedItem : MethodName := ⟨RX3, "refusedItem", "()I"⟩
def dkwX3_refusedItem_1 : List UInt8 := [180, 0, 47, 172]
abbrev dktX3_refusedItem_1 : List UInt8 := dkwX3_refusedItem_1 ++ []
def dkwX3_refusedItem_0 : List UInt8 := [42, 3, 181, 0, 53, 42, 180, 0, 47, 2, 160, 0, 11, 42, 4, 182, 0, 69, 167, 0, 7, 42]
abbrev dktX3_refusedItem_0 : List UInt8 := dkwX3_refusedItem_0 ++ dktX3_refusedItem_1
theorem dksX3_refusedItem_0 : cX3_refusedItem.data.toList.drop 0 = dktX3_refusedItem_0 := by decide +kernel
theorem dksX3_refusedItem_1 : cX3_refusedItem.data.toList.drop 22 = dktX3_refusedItem_1 := dk_seg dksX3_refusedItem_0 22 rfl rfl
theorem dX3_refusedItem_0 : decode cX3_refusedItem 0 = .ok (.aload_n 0, 1) := dk_42 (dk_at dksX3_refusedItem_0 0 rfl rfl)
theorem dX3_refusedItem_1 : decode cX3_refusedItem 1 = .ok (.iconst 0, 1) := dk_3 (dk_at dksX3_refusedItem_0 1 rfl rfl)
theorem dX3_refusedItem_2 : decode cX3_refusedItem 2 = .ok (.putfield 53, 3) := dk_181 0 53 (dk_at dksX3_refusedItem_0 2 rfl rfl)
theorem dX3_refusedItem_5 : decode cX3_refusedItem 5 = .ok (.aload_n 0, 1) := dk_42 (dk_at dksX3_refusedItem_0 5 rfl rfl)
theorem dX3_refusedItem_6 : decode cX3_refusedItem 6 = .ok (.getfield 47, 3) := dk_180 0 47 (dk_at dksX3_refusedItem_0 6 rfl rfl)
theorem dX3_refusedItem_9 : decode cX3_refusedItem 9 = .ok (.iconst (-1), 1) := dk_2 (dk_at dksX3_refusedItem_0 9 rfl rfl)
theorem dX3_refusedItem_10 : decode cX3_refusedItem 10 = .ok (.if_icmp .ne 11, 3) := dk_160 0 11 (dk_at dksX3_refusedItem_0 10 rfl rfl)
theorem dX3_refusedItem_13 : decode cX3_refusedItem 13 = .ok (.aload_n 0, 1) := dk_42 (dk_at dksX3_refusedItem_0 13 rfl rfl)
theorem dX3_refusedItem_14 : decode cX3_refusedItem 14 = .ok (.iconst 1, 1) := dk_4 (dk_at dksX3_refusedItem_0 14 rfl rfl)
theorem dX3_refusedItem_15 : decode cX3_refusedItem 15 = .ok (.invokevirtual 69, 3) := dk_182 0 69 (dk_at dksX3_refusedItem_0 15 rfl rfl)
theorem dX3_refusedItem_18 : decode cX3_refusedItem 18 = .ok (.goto 7, 3) := dk_167 0 7 (dk_at dksX3_refusedItem_0 18 rfl rfl)
theorem dX3_refusedItem_21 : decode cX3_refusedItem 21 = .ok (.aload_n 0, 1) := dk_42 (dk_at dksX3_refusedItem_0 21 rfl rfl)
theorem dX3_refusedItem_22 : decode cX3_refusedItem 22 = .ok (.getfield 47, 3) := dk_180 0 47 (dk_at dksX3_refusedItem_1 0 rfl rfl)
theorem dX3_refusedItem_25 : decode cX3_refusedItem 25 = .ok (.ireturn, 1) := dk_172 (dk_at dksX3_refusedItem_1 3 rfl rfl)
abbrev cX3_undo : ByteArray := prog_14_method_92_code
def yX3_undo : MethodName := ⟨RX3, "undo", "()I"⟩
def dkwX3_undo_2 : List UInt8 := [180, 0, 56, 104, 27, 96, 46, 79, 132, 1, 1, 167, 255, 227, 42, 180, 0, 56, 172]
abbrev dktX3_undo_2 : List UInt8 := dkwX3_undo_2 ++ []
def dkwX3_undo_1 : List UInt8 := [100, 181, 0, 56, 3, 60, 27, 16, 93, 162, 0, 29, 42, 180, 0, 7, 27, 42, 180, 0, 19, 16, 93, 42]
abbrev dktX3_undo_1 : List UInt8 := dkwX3_undo_1 ++ dktX3_undo_2
def dkwX3_undo_0 : List UInt8 := [42, 3, 181, 0, 53, 42, 180, 0, 56, 154, 0, 9, 42, 4, 182, 0, 69, 172, 42, 89, 180, 0, 56, 4]
abbrev dktX3_undo_0 : List UInt8 := dkwX3_undo_0 ++ dktX3_undo_1
theorem dksX3_undo_0 : cX3_undo.data.toList.drop 0 = dktX3_undo_0 := by decide +kernel
theorem dksX3_undo_1 : cX3_undo.data.toList.drop 24 = dktX3_undo_1 := dk_seg dksX3_undo_0 24 rfl rfl
theorem dksX3_undo_2 : cX3_undo.data.toList.drop 48 = dktX3_undo_2 := dk_seg dksX3_undo_1 24 rfl rfl
theorem dX3_undo_0 : decode cX3_undo 0 = .ok (.aload_n 0, 1) := dk_42 (dk_at dksX3_undo_0 0 rfl rfl)
theorem dX3_undo_1 : decode cX3_undo 1 = .ok (.iconst 0, 1) := dk_3 (dk_at dksX3_undo_0 1 rfl rfl)
theorem dX3_undo_2 : decode cX3_undo 2 = .ok (.putfield 53, 3) := dk_181 0 53 (dk_at dksX3_undo_0 2 rfl rfl)
theorem dX3_undo_5 : decode cX3_undo 5 = .ok (.aload_n 0, 1) := dk_42 (dk_at dksX3_undo_0 5 rfl rfl)
theorem dX3_undo_6 : decode cX3_undo 6 = .ok (.getfield 56, 3) := dk_180 0 56 (dk_at dksX3_undo_0 6 rfl rfl)
theorem dX3_undo_9 : decode cX3_undo 9 = .ok (.ifCond .ne 9, 3) := dk_154 0 9 (dk_at dksX3_undo_0 9 rfl rfl)
theorem dX3_undo_12 : decode cX3_undo 12 = .ok (.aload_n 0, 1) := dk_42 (dk_at dksX3_undo_0 12 rfl rfl)
theorem dX3_undo_13 : decode cX3_undo 13 = .ok (.iconst 1, 1) := dk_4 (dk_at dksX3_undo_0 13 rfl rfl)
theorem dX3_undo_14 : decode cX3_undo 14 = .ok (.invokevirtual 69, 3) := dk_182 0 69 (dk_at dksX3_undo_0 14 rfl rfl)
theorem dX3_undo_17 : decode cX3_undo 17 = .ok (.ireturn, 1) := dk_172 (dk_at dksX3_undo_0 17 rfl rfl)
theorem dX3_undo_18 : decode cX3_undo 18 = .ok (.aload_n 0, 1) := dk_42 (dk_at dksX3_undo_0 18 rfl rfl)
theorem dX3_undo_19 : decode cX3_undo 19 = .ok (.dup, 1) := dk_89 (dk_at dksX3_undo_0 19 rfl rfl)
theorem dX3_undo_20 : decode cX3_undo 20 = .ok (.getfield 56, 3) := dk_180 0 56 (dk_at dksX3_undo_0 20 rfl rfl)
theorem dX3_undo_23 : decode cX3_undo 23 = .ok (.iconst 1, 1) := dk_4 (dk_at dksX3_undo_0 23 rfl rfl)
theorem dX3_undo_24 : decode cX3_undo 24 = .ok (.isub, 1) := dk_100 (dk_at dksX3_undo_1 0 rfl rfl)
theorem dX3_undo_25 : decode cX3_undo 25 = .ok (.putfield 56, 3) := dk_181 0 56 (dk_at dksX3_undo_1 1 rfl rfl)
theorem dX3_undo_28 : decode cX3_undo 28 = .ok (.iconst 0, 1) := dk_3 (dk_at dksX3_undo_1 4 rfl rfl)
theorem dX3_undo_29 : decode cX3_undo 29 = .ok (.istore_n 1, 1) := dk_60 (dk_at dksX3_undo_1 5 rfl rfl)
theorem dX3_undo_30 : decode cX3_undo 30 = .ok (.iload_n 1, 1) := dk_27 (dk_at dksX3_undo_1 6 rfl rfl)
theorem dX3_undo_31 : decode cX3_undo 31 = .ok (.bipush 93, 2) := dk_16 93 (dk_at dksX3_undo_1 7 rfl rfl)
theorem dX3_undo_33 : decode cX3_undo 33 = .ok (.if_icmp .ge 29, 3) := dk_162 0 29 (dk_at dksX3_undo_1 9 rfl rfl)
theorem dX3_undo_36 : decode cX3_undo 36 = .ok (.aload_n 0, 1) := dk_42 (dk_at dksX3_undo_1 12 rfl rfl)
theorem dX3_undo_37 : decode cX3_undo 37 = .ok (.getfield 7, 3) := dk_180 0 7 (dk_at dksX3_undo_1 13 rfl rfl)
theorem dX3_undo_40 : decode cX3_undo 40 = .ok (.iload_n 1, 1) := dk_27 (dk_at dksX3_undo_1 16 rfl rfl)
theorem dX3_undo_41 : decode cX3_undo 41 = .ok (.aload_n 0, 1) := dk_42 (dk_at dksX3_undo_1 17 rfl rfl)
theorem dX3_undo_42 : decode cX3_undo 42 = .ok (.getfield 19, 3) := dk_180 0 19 (dk_at dksX3_undo_1 18 rfl rfl)
theorem dX3_undo_45 : decode cX3_undo 45 = .ok (.bipush 93, 2) := dk_16 93 (dk_at dksX3_undo_1 21 rfl rfl)
theorem dX3_undo_47 : decode cX3_undo 47 = .ok (.aload_n 0, 1) := dk_42 (dk_at dksX3_undo_1 23 rfl rfl)
theorem dX3_undo_48 : decode cX3_undo 48 = .ok (.getfield 56, 3) := dk_180 0 56 (dk_at dksX3_undo_2 0 rfl rfl)
theorem dX3_undo_51 : decode cX3_undo 51 = .ok (.imul, 1) := dk_104 (dk_at dksX3_undo_2 3 rfl rfl)
theorem dX3_undo_52 : decode cX3_undo 52 = .ok (.iload_n 1, 1) := dk_27 (dk_at dksX3_undo_2 4 rfl rfl)
theorem dX3_undo_53 : decode cX3_undo 53 = .ok (.iadd, 1) := dk_96 (dk_at dksX3_undo_2 5 rfl rfl)
theorem dX3_undo_54 : decode cX3_undo 54 = .ok (.iaload, 1) := dk_46 (dk_at dksX3_undo_2 6 rfl rfl)
theorem dX3_undo_55 : decode cX3_undo 55 = .ok (.iastore, 1) := dk_79 (dk_at dksX3_undo_2 7 rfl rfl)
theorem dX3_undo_56 : decode cX3_undo 56 = .ok (.iinc 1 1, 3) := dk_132 1 1 (dk_at dksX3_undo_2 8 rfl rfl)
theorem dX3_undo_59 : decode cX3_undo 59 = .ok (.goto (-29), 3) := dk_167 255 227 (dk_at dksX3_undo_2 11 rfl rfl)
theorem dX3_undo_62 : decode cX3_undo 62 = .ok (.aload_n 0, 1) := dk_42 (dk_at dksX3_undo_2 14 rfl rfl)
theorem dX3_undo_63 : decode cX3_undo 63 = .ok (.getfield 56, 3) := dk_180 0 56 (dk_at dksX3_undo_2 15 rfl rfl)
theorem dX3_undo_66 : decode cX3_undo 66 = .ok (.ireturn, 1) := dk_172 (dk_at dksX3_undo_2 18 rfl rfl)
abbrev cX3_snapshot : ByteArray := prog_14_method_93_code
def yX3_snapshot : MethodName := ⟨RX3, "snapshot", "()I"⟩
def dkwX3_snapshot_1 : List UInt8 := [79, 132, 1, 1, 167, 255, 235, 42, 4, 181, 1, 27, 42, 180, 0, 7, 3, 46, 172]
abbrev dktX3_snapshot_1 : List UInt8 := dkwX3_snapshot_1 ++ []
def dkwX3_snapshot_0 : List UInt8 := [42, 3, 181, 0, 53, 3, 60, 27, 16, 93, 162, 0, 21, 42, 180, 0, 16, 27, 42, 180, 0, 7, 27, 46]
abbrev dktX3_snapshot_0 : List UInt8 := dkwX3_snapshot_0 ++ dktX3_snapshot_1
theorem dksX3_snapshot_0 : cX3_snapshot.data.toList.drop 0 = dktX3_snapshot_0 := by decide +kernel
theorem dksX3_snapshot_1 : cX3_snapshot.data.toList.drop 24 = dktX3_snapshot_1 := dk_seg dksX3_snapshot_0 24 rfl rfl
theorem dX3_snapshot_0 : decode cX3_snapshot 0 = .ok (.aload_n 0, 1) := dk_42 (dk_at dksX3_snapshot_0 0 rfl rfl)
theorem dX3_snapshot_1 : decode cX3_snapshot 1 = .ok (.iconst 0, 1) := dk_3 (dk_at dksX3_snapshot_0 1 rfl rfl)
theorem dX3_snapshot_2 : decode cX3_snapshot 2 = .ok (.putfield 53, 3) := dk_181 0 53 (dk_at dksX3_snapshot_0 2 rfl rfl)
theorem dX3_snapshot_5 : decode cX3_snapshot 5 = .ok (.iconst 0, 1) := dk_3 (dk_at dksX3_snapshot_0 5 rfl rfl)
theorem dX3_snapshot_6 : decode cX3_snapshot 6 = .ok (.istore_n 1, 1) := dk_60 (dk_at dksX3_snapshot_0 6 rfl rfl)
theorem dX3_snapshot_7 : decode cX3_snapshot 7 = .ok (.iload_n 1, 1) := dk_27 (dk_at dksX3_snapshot_0 7 rfl rfl)
theorem dX3_snapshot_8 : decode cX3_snapshot 8 = .ok (.bipush 93, 2) := dk_16 93 (dk_at dksX3_snapshot_0 8 rfl rfl)
theorem dX3_snapshot_10 : decode cX3_snapshot 10 = .ok (.if_icmp .ge 21, 3) := dk_162 0 21 (dk_at dksX3_snapshot_0 10 rfl rfl)
theorem dX3_snapshot_13 : decode cX3_snapshot 13 = .ok (.aload_n 0, 1) := dk_42 (dk_at dksX3_snapshot_0 13 rfl rfl)
theorem dX3_snapshot_14 : decode cX3_snapshot 14 = .ok (.getfield 16, 3) := dk_180 0 16 (dk_at dksX3_snapshot_0 14 rfl rfl)
theorem dX3_snapshot_17 : decode cX3_snapshot 17 = .ok (.iload_n 1, 1) := dk_27 (dk_at dksX3_snapshot_0 17 rfl rfl)
theorem dX3_snapshot_18 : decode cX3_snapshot 18 = .ok (.aload_n 0, 1) := dk_42 (dk_at dksX3_snapshot_0 18 rfl rfl)
theorem dX3_snapshot_19 : decode cX3_snapshot 19 = .ok (.getfield 7, 3) := dk_180 0 7 (dk_at dksX3_snapshot_0 19 rfl rfl)
theorem dX3_snapshot_22 : decode cX3_snapshot 22 = .ok (.iload_n 1, 1) := dk_27 (dk_at dksX3_snapshot_0 22 rfl rfl)
theorem dX3_snapshot_23 : decode cX3_snapshot 23 = .ok (.iaload, 1) := dk_46 (dk_at dksX3_snapshot_0 23 rfl rfl)
theorem dX3_snapshot_24 : decode cX3_snapshot 24 = .ok (.iastore, 1) := dk_79 (dk_at dksX3_snapshot_1 0 rfl rfl)
theorem dX3_snapshot_25 : decode cX3_snapshot 25 = .ok (.iinc 1 1, 3) := dk_132 1 1 (dk_at dksX3_snapshot_1 1 rfl rfl)
theorem dX3_snapshot_28 : decode cX3_snapshot 28 = .ok (.goto (-21), 3) := dk_167 255 235 (dk_at dksX3_snapshot_1 4 rfl rfl)
theorem dX3_snapshot_31 : decode cX3_snapshot 31 = .ok (.aload_n 0, 1) := dk_42 (dk_at dksX3_snapshot_1 7 rfl rfl)
theorem dX3_snapshot_32 : decode cX3_snapshot 32 = .ok (.iconst 1, 1) := dk_4 (dk_at dksX3_snapshot_1 8 rfl rfl)
theorem dX3_snapshot_33 : decode cX3_snapshot 33 = .ok (.putfield 283, 3) := dk_181 1 27 (dk_at dksX3_snapshot_1 9 rfl rfl)
theorem dX3_snapshot_36 : decode cX3_snapshot 36 = .ok (.aload_n 0, 1) := dk_42 (dk_at dksX3_snapshot_1 12 rfl rfl)
theorem dX3_snapshot_37 : decode cX3_snapshot 37 = .ok (.getfield 7, 3) := dk_180 0 7 (dk_at dksX3_snapshot_1 13 rfl rfl)
theorem dX3_snapshot_40 : decode cX3_snapshot 40 = .ok (.iconst 0, 1) := dk_3 (dk_at dksX3_snapshot_1 16 rfl rfl)
theorem dX3_snapshot_41 : decode cX3_snapshot 41 = .ok (.iaload, 1) := dk_46 (dk_at dksX3_snapshot_1 17 rfl rfl)
theorem dX3_snapshot_42 : decode cX3_snapshot 42 = .ok (.ireturn, 1) := dk_172 (dk_at dksX3_snapshot_1 18 rfl rfl)
abbrev cX3_restore : ByteArray := prog_14_method_94_code
def yX3_restore : MethodName := ⟨RX3, "restore", "()I"⟩
def dkwX3_restore_2 : List UInt8 := [181, 0, 56, 42, 180, 0, 7, 3, 46, 172]
abbrev dktX3_restore_2 : List UInt8 := dkwX3_restore_2 ++ []
def dkwX3_restore_1 : List UInt8 := [162, 0, 21, 42, 180, 0, 7, 27, 42, 180, 0, 16, 27, 46, 79, 132, 1, 1, 167, 255, 235, 42, 3]
abbrev dktX3_restore_1 : List UInt8 := dkwX3_restore_1 ++ dktX3_restore_2
def dkwX3_restore_0 : List UInt8 := [42, 3, 181, 0, 53, 42, 180, 1, 27, 154, 0, 9, 42, 4, 182, 0, 69, 172, 3, 60, 27, 16, 93]
abbrev dktX3_restore_0 : List UInt8 := dkwX3_restore_0 ++ dktX3_restore_1
theorem dksX3_restore_0 : cX3_restore.data.toList.drop 0 = dktX3_restore_0 := by decide +kernel
theorem dksX3_restore_1 : cX3_restore.data.toList.drop 23 = dktX3_restore_1 := dk_seg dksX3_restore_0 23 rfl rfl
theorem dksX3_restore_2 : cX3_restore.data.toList.drop 46 = dktX3_restore_2 := dk_seg dksX3_restore_1 23 rfl rfl
theorem dX3_restore_0 : decode cX3_restore 0 = .ok (.aload_n 0, 1) := dk_42 (dk_at dksX3_restore_0 0 rfl rfl)
theorem dX3_restore_1 : decode cX3_restore 1 = .ok (.iconst 0, 1) := dk_3 (dk_at dksX3_restore_0 1 rfl rfl)
theorem dX3_restore_2 : decode cX3_restore 2 = .ok (.putfield 53, 3) := dk_181 0 53 (dk_at dksX3_restore_0 2 rfl rfl)
theorem dX3_restore_5 : decode cX3_restore 5 = .ok (.aload_n 0, 1) := dk_42 (dk_at dksX3_restore_0 5 rfl rfl)
theorem dX3_restore_6 : decode cX3_restore 6 = .ok (.getfield 283, 3) := dk_180 1 27 (dk_at dksX3_restore_0 6 rfl rfl)
theorem dX3_restore_9 : decode cX3_restore 9 = .ok (.ifCond .ne 9, 3) := dk_154 0 9 (dk_at dksX3_restore_0 9 rfl rfl)
theorem dX3_restore_12 : decode cX3_restore 12 = .ok (.aload_n 0, 1) := dk_42 (dk_at dksX3_restore_0 12 rfl rfl)
theorem dX3_restore_13 : decode cX3_restore 13 = .ok (.iconst 1, 1) := dk_4 (dk_at dksX3_restore_0 13 rfl rfl)
theorem dX3_restore_14 : decode cX3_restore 14 = .ok (.invokevirtual 69, 3) := dk_182 0 69 (dk_at dksX3_restore_0 14 rfl rfl)
theorem dX3_restore_17 : decode cX3_restore 17 = .ok (.ireturn, 1) := dk_172 (dk_at dksX3_restore_0 17 rfl rfl)
theorem dX3_restore_18 : decode cX3_restore 18 = .ok (.iconst 0, 1) := dk_3 (dk_at dksX3_restore_0 18 rfl rfl)
theorem dX3_restore_19 : decode cX3_restore 19 = .ok (.istore_n 1, 1) := dk_60 (dk_at dksX3_restore_0 19 rfl rfl)
theorem dX3_restore_20 : decode cX3_restore 20 = .ok (.iload_n 1, 1) := dk_27 (dk_at dksX3_restore_0 20 rfl rfl)
theorem dX3_restore_21 : decode cX3_restore 21 = .ok (.bipush 93, 2) := dk_16 93 (dk_at dksX3_restore_0 21 rfl rfl)
theorem dX3_restore_23 : decode cX3_restore 23 = .ok (.if_icmp .ge 21, 3) := dk_162 0 21 (dk_at dksX3_restore_1 0 rfl rfl)
theorem dX3_restore_26 : decode cX3_restore 26 = .ok (.aload_n 0, 1) := dk_42 (dk_at dksX3_restore_1 3 rfl rfl)
theorem dX3_restore_27 : decode cX3_restore 27 = .ok (.getfield 7, 3) := dk_180 0 7 (dk_at dksX3_restore_1 4 rfl rfl)
theorem dX3_restore_30 : decode cX3_restore 30 = .ok (.iload_n 1, 1) := dk_27 (dk_at dksX3_restore_1 7 rfl rfl)
theorem dX3_restore_31 : decode cX3_restore 31 = .ok (.aload_n 0, 1) := dk_42 (dk_at dksX3_restore_1 8 rfl rfl)
theorem dX3_restore_32 : decode cX3_restore 32 = .ok (.getfield 16, 3) := dk_180 0 16 (dk_at dksX3_restore_1 9 rfl rfl)
theorem dX3_restore_35 : decode cX3_restore 35 = .ok (.iload_n 1, 1) := dk_27 (dk_at dksX3_restore_1 12 rfl rfl)
theorem dX3_restore_36 : decode cX3_restore 36 = .ok (.iaload, 1) := dk_46 (dk_at dksX3_restore_1 13 rfl rfl)
theorem dX3_restore_37 : decode cX3_restore 37 = .ok (.iastore, 1) := dk_79 (dk_at dksX3_restore_1 14 rfl rfl)
theorem dX3_restore_38 : decode cX3_restore 38 = .ok (.iinc 1 1, 3) := dk_132 1 1 (dk_at dksX3_restore_1 15 rfl rfl)
theorem dX3_restore_41 : decode cX3_restore 41 = .ok (.goto (-21), 3) := dk_167 255 235 (dk_at dksX3_restore_1 18 rfl rfl)
theorem dX3_restore_44 : decode cX3_restore 44 = .ok (.aload_n 0, 1) := dk_42 (dk_at dksX3_restore_1 21 rfl rfl)
theorem dX3_restore_45 : decode cX3_restore 45 = .ok (.iconst 0, 1) := dk_3 (dk_at dksX3_restore_1 22 rfl rfl)
theorem dX3_restore_46 : decode cX3_restore 46 = .ok (.putfield 56, 3) := dk_181 0 56 (dk_at dksX3_restore_2 0 rfl rfl)
theorem dX3_restore_49 : decode cX3_restore 49 = .ok (.aload_n 0, 1) := dk_42 (dk_at dksX3_restore_2 3 rfl rfl)
theorem dX3_restore_50 : decode cX3_restore 50 = .ok (.getfield 7, 3) := dk_180 0 7 (dk_at dksX3_restore_2 4 rfl rfl)
theorem dX3_restore_53 : decode cX3_restore 53 = .ok (.iconst 0, 1) := dk_3 (dk_at dksX3_restore_2 7 rfl rfl)
theorem dX3_restore_54 : decode cX3_restore 54 = .ok (.iaload, 1) := dk_46 (dk_at dksX3_restore_2 8 rfl rfl)
theorem dX3_restore_55 : decode cX3_restore 55 = .ok (.ireturn, 1) := dk_172 (dk_at dksX3_restore_2 9 rfl rfl)
theorem q87 : (Jvm.Cond.initialized "FlockHutsModel") ∈ lw_all := lw_g (lw_at lw_m1 11 rfl) rfl
theorem q535 : (Jvm.Cond.selects "FlockHutsModel" ({ cls := "java/lang/Object", name := "getClass", desc := "()Ljava/lang/Class;" } : Jvm.MethodName) ({ cls := "java/lang/Object", name := "getClass", desc := "()Ljava/lang/Class;" } : Jvm.MethodName)) ∈ lw_all := lw_g (lw_at lw_m2 219 rfl) rfl
theorem q1259 : (Jvm.Cond.selects "FlockHutsModel" ({ cls := "java/lang/Object", name := "equals", desc := "(Ljava/lang/Object;)Z" } : Jvm.MethodName) ({ cls := "java/lang/Object", name := "equals", desc := "(Ljava/lang/Object;)Z" } : Jvm.MethodName)) ∈ lw_all := lw_g (lw_at lw_m5 223 rfl) rfl
theorem q1956 : (Jvm.Cond.instantiable "FlockHutsModel" (26 : Nat)) ∈ lw_all := lw_g (lw_at lw_m8 200 rfl) rfl
theorem q1958 : (Jvm.Cond.instanceMethod ({ cls := "FlockHutsModel", name := "<init>", desc := "()V" } : Jvm.MethodName)) ∈ lw_all := lw_g (lw_at lw_m8 202 rfl) rfl
theorem q1959 : (Jvm.Cond.code ({ cls := "FlockHutsModel", name := "<init>", desc := "()V" } : Jvm.MethodName) prog_14_method_1_code (1 : Nat) (Option.none : Option Jvm.ClassFile.FieldType)) ∈ lw_all := lw_g (lw_at lw_m8 203 rfl) rfl
theorem q1960 : (Jvm.Cond.methodLink "FlockHutsModel" (1 : Nat) ({ cls := "java/lang/Object", name := "<init>", desc := "()V" } : Jvm.MethodName)) ∈ lw_all := lw_g (lw_at lw_m8 204 rfl) rfl
theorem q1961 : (Jvm.Cond.methodLink "FlockHutsModel" (50 : Nat) ({ cls := "FlockHutsModel", name := "begins", desc := "()V" } : Jvm.MethodName)) ∈ lw_all := lw_g (lw_at lw_m8 205 rfl) rfl
theorem q1962 : (Jvm.Cond.privateMethod ({ cls := "FlockHutsModel", name := "begins", desc := "()V" } : Jvm.MethodName)) ∈ lw_tbl := lw_at lw_m8 206 rfl
theorem q1963 : (Jvm.Cond.instanceMethod ({ cls := "FlockHutsModel", name := "begins", desc := "()V" } : Jvm.MethodName)) ∈ lw_all := lw_g (lw_at lw_m8 207 rfl) rfl
theorem q1964 : (Jvm.Cond.code ({ cls := "FlockHutsModel", name := "begins", desc := "()V" } : Jvm.MethodName) prog_14_method_5_code (2 : Nat) (Option.none : Option Jvm.ClassFile.FieldType)) ∈ lw_all := lw_g (lw_at lw_m8 208 rfl) rfl
theorem q1965 : (Jvm.Cond.fieldLink "FlockHutsModel" (53 : Nat) "FlockHutsModel" "thrown" "I") ∈ lw_all := lw_g (lw_at lw_m8 209 rfl) rfl
theorem q1966 : (Jvm.Cond.fieldLink "FlockHutsModel" (7 : Nat) "FlockHutsModel" "s" "[I") ∈ lw_all := lw_g (lw_at lw_m8 210 rfl) rfl
theorem q1967 : (Jvm.Cond.fieldLink "FlockHutsModel" (13 : Nat) "FlockHutsModel" "frame" "[I") ∈ lw_all := lw_g (lw_at lw_m8 211 rfl) rfl
theorem q1968 : (Jvm.Cond.fieldLink "FlockHutsModel" (16 : Nat) "FlockHutsModel" "saved" "[I") ∈ lw_all := lw_g (lw_at lw_m8 212 rfl) rfl
theorem q1969 : (Jvm.Cond.fieldLink "FlockHutsModel" (19 : Nat) "FlockHutsModel" "history" "[I") ∈ lw_all := lw_g (lw_at lw_m8 213 rfl) rfl
theorem q1970 : (Jvm.Cond.fieldLink "FlockHutsModel" (22 : Nat) "FlockHutsModel" "thought" "[I") ∈ lw_all := lw_g (lw_at lw_m8 214 rfl) rfl
theorem q1971 : (Jvm.Cond.fieldLink "FlockHutsModel" (25 : Nat) "FlockHutsModel" "before" "[I") ∈ lw_all := lw_g (lw_at lw_m8 215 rfl) rfl
theorem q1972 : (Jvm.Cond.fieldLink "FlockHutsModel" (56 : Nat) "FlockHutsModel" "kept" "I") ∈ lw_all := lw_g (lw_at lw_m8 216 rfl) rfl
theorem q1973 : (Jvm.Cond.fieldLink "FlockHutsModel" (283 : Nat) "FlockHutsModel" "hasSaved" "Z") ∈ lw_all := lw_g (lw_at lw_m8 217 rfl) rfl
theorem q1974 : (Jvm.Cond.fieldLink "FlockHutsModel" (28 : Nat) "FlockHutsModel" "text" "[I") ∈ lw_all := lw_g (lw_at lw_m8 218 rfl) rfl
theorem q1975 : (Jvm.Cond.fieldLink "FlockHutsModel" (31 : Nat) "FlockHutsModel" "told" "[I") ∈ lw_all := lw_g (lw_at lw_m8 219 rfl) rfl
theorem q1976 : (Jvm.Cond.fieldLink "FlockHutsModel" (34 : Nat) "FlockHutsModel" "out" "[I") ∈ lw_all := lw_g (lw_at lw_m8 220 rfl) rfl
theorem q1977 : (Jvm.Cond.fieldLink "FlockHutsModel" (37 : Nat) "FlockHutsModel" "oldX" "[I") ∈ lw_all := lw_g (lw_at lw_m8 221 rfl) rfl
theorem q1978 : (Jvm.Cond.fieldLink "FlockHutsModel" (40 : Nat) "FlockHutsModel" "oldY" "[I") ∈ lw_all := lw_g (lw_at lw_m8 222 rfl) rfl
theorem q1979 : (Jvm.Cond.fieldLink "FlockHutsModel" (222 : Nat) "FlockHutsModel" "length" "I") ∈ lw_all := lw_g (lw_at lw_m8 223 rfl) rfl
theorem q1980 : (Jvm.Cond.fieldLink "FlockHutsModel" (206 : Nat) "FlockHutsModel" "outLength" "I") ∈ lw_all := lw_g (lw_at lw_m8 224 rfl) rfl
theorem q1981 : (Jvm.Cond.fieldLink "FlockHutsModel" (43 : Nat) "FlockHutsModel" "faultAt" "I") ∈ lw_all := lw_g (lw_at lw_m8 225 rfl) rfl
theorem q1982 : (Jvm.Cond.fieldLink "FlockHutsModel" (47 : Nat) "FlockHutsModel" "itemAt" "I") ∈ lw_all := lw_g (lw_at lw_m8 226 rfl) rfl
theorem q1983 : (Jvm.Cond.fieldLink "FlockHutsModel" (72 : Nat) "FlockHutsModel" "why" "I") ∈ lw_all := lw_g (lw_at lw_m8 227 rfl) rfl
theorem q1984 : (Jvm.Cond.fieldLink "FlockHutsModel" (75 : Nat) "FlockHutsModel" "detail" "I") ∈ lw_all := lw_g (lw_at lw_m8 228 rfl) rfl
theorem q1985 : (Jvm.Cond.fieldLink "FlockHutsModel" (59 : Nat) "FlockHutsModel" "about" "I") ∈ lw_all := lw_g (lw_at lw_m8 229 rfl) rfl
theorem q1986 : (Jvm.Cond.fieldLink "FlockHutsModel" (62 : Nat) "FlockHutsModel" "answer" "I") ∈ lw_all := lw_g (lw_at lw_m8 230 rfl) rfl
theorem q1987 : (Jvm.Cond.fieldLink "FlockHutsModel" (225 : Nat) "FlockHutsModel" "spot" "I") ∈ lw_all := lw_g (lw_at lw_m8 231 rfl) rfl
theorem q1988 : (Jvm.Cond.fieldLink "FlockHutsModel" (228 : Nat) "FlockHutsModel" "end" "I") ∈ lw_all := lw_g (lw_at lw_m8 232 rfl) rfl
theorem q1989 : (Jvm.Cond.fieldLink "FlockHutsModel" (249 : Nat) "FlockHutsModel" "orders" "I") ∈ lw_all := lw_g (lw_at lw_m8 233 rfl) rfl
theorem q1990 : (Jvm.Cond.fieldLink "FlockHutsModel" (235 : Nat) "FlockHutsModel" "isWrong" "Z") ∈ lw_all := lw_g (lw_at lw_m8 234 rfl) rfl
theorem q1991 : (Jvm.Cond.lays "FlockHutsModel" "FlockHutsModel" "thrown" "I") ∈ lw_all := lw_g (lw_at lw_m8 235 rfl) rfl
theorem q1992 : (Jvm.Cond.soleField "FlockHutsModel" "thrown") ∈ lw_all := lw_g (lw_at lw_m8 236 rfl) rfl
theorem q1993 : (Jvm.Cond.laysFinal "FlockHutsModel" "FlockHutsModel" "s" "[I") ∈ lw_all := lw_g (lw_at lw_m8 237 rfl) rfl
theorem q1994 : (Jvm.Cond.soleField "FlockHutsModel" "s") ∈ lw_all := lw_g (lw_at lw_m8 238 rfl) rfl
theorem q1995 : (Jvm.Cond.laysFinal "FlockHutsModel" "FlockHutsModel" "frame" "[I") ∈ lw_all := lw_g (lw_at lw_m8 239 rfl) rfl
theorem q1996 : (Jvm.Cond.soleField "FlockHutsModel" "frame") ∈ lw_all := lw_g (lw_at lw_m9 0 rfl) rfl
theorem q1997 : (Jvm.Cond.laysFinal "FlockHutsModel" "FlockHutsModel" "saved" "[I") ∈ lw_all := lw_g (lw_at lw_m9 1 rfl) rfl
theorem q1998 : (Jvm.Cond.soleField "FlockHutsModel" "saved") ∈ lw_all := lw_g (lw_at lw_m9 2 rfl) rfl
theorem q1999 : (Jvm.Cond.laysFinal "FlockHutsModel" "FlockHutsModel" "history" "[I") ∈ lw_all := lw_g (lw_at lw_m9 3 rfl) rfl
theorem q2000 : (Jvm.Cond.soleField "FlockHutsModel" "history") ∈ lw_all := lw_g (lw_at lw_m9 4 rfl) rfl
theorem q2001 : (Jvm.Cond.laysFinal "FlockHutsModel" "FlockHutsModel" "thought" "[I") ∈ lw_all := lw_g (lw_at lw_m9 5 rfl) rfl
theorem q2002 : (Jvm.Cond.soleField "FlockHutsModel" "thought") ∈ lw_all := lw_g (lw_at lw_m9 6 rfl) rfl
theorem q2003 : (Jvm.Cond.laysFinal "FlockHutsModel" "FlockHutsModel" "before" "[I") ∈ lw_all := lw_g (lw_at lw_m9 7 rfl) rfl
theorem q2004 : (Jvm.Cond.soleField "FlockHutsModel" "before") ∈ lw_all := lw_g (lw_at lw_m9 8 rfl) rfl
theorem q2005 : (Jvm.Cond.lays "FlockHutsModel" "FlockHutsModel" "kept" "I") ∈ lw_all := lw_g (lw_at lw_m9 9 rfl) rfl
theorem q2006 : (Jvm.Cond.soleField "FlockHutsModel" "kept") ∈ lw_all := lw_g (lw_at lw_m9 10 rfl) rfl
theorem q2007 : (Jvm.Cond.lays "FlockHutsModel" "FlockHutsModel" "hasSaved" "Z") ∈ lw_all := lw_g (lw_at lw_m9 11 rfl) rfl
theorem q2008 : (Jvm.Cond.soleField "FlockHutsModel" "hasSaved") ∈ lw_all := lw_g (lw_at lw_m9 12 rfl) rfl
theorem q2009 : (Jvm.Cond.laysFinal "FlockHutsModel" "FlockHutsModel" "text" "[I") ∈ lw_all := lw_g (lw_at lw_m9 13 rfl) rfl
theorem q2010 : (Jvm.Cond.soleField "FlockHutsModel" "text") ∈ lw_all := lw_g (lw_at lw_m9 14 rfl) rfl
theorem q2011 : (Jvm.Cond.laysFinal "FlockHutsModel" "FlockHutsModel" "told" "[I") ∈ lw_all := lw_g (lw_at lw_m9 15 rfl) rfl
theorem q2012 : (Jvm.Cond.soleField "FlockHutsModel" "told") ∈ lw_all := lw_g (lw_at lw_m9 16 rfl) rfl
theorem q2013 : (Jvm.Cond.laysFinal "FlockHutsModel" "FlockHutsModel" "out" "[I") ∈ lw_all := lw_g (lw_at lw_m9 17 rfl) rfl
theorem q2014 : (Jvm.Cond.soleField "FlockHutsModel" "out") ∈ lw_all := lw_g (lw_at lw_m9 18 rfl) rfl
theorem q2015 : (Jvm.Cond.laysFinal "FlockHutsModel" "FlockHutsModel" "oldX" "[I") ∈ lw_all := lw_g (lw_at lw_m9 19 rfl) rfl
theorem q2016 : (Jvm.Cond.soleField "FlockHutsModel" "oldX") ∈ lw_all := lw_g (lw_at lw_m9 20 rfl) rfl
theorem q2017 : (Jvm.Cond.laysFinal "FlockHutsModel" "FlockHutsModel" "oldY" "[I") ∈ lw_all := lw_g (lw_at lw_m9 21 rfl) rfl
theorem q2018 : (Jvm.Cond.soleField "FlockHutsModel" "oldY") ∈ lw_all := lw_g (lw_at lw_m9 22 rfl) rfl
theorem q2019 : (Jvm.Cond.lays "FlockHutsModel" "FlockHutsModel" "length" "I") ∈ lw_all := lw_g (lw_at lw_m9 23 rfl) rfl
theorem q2020 : (Jvm.Cond.soleField "FlockHutsModel" "length") ∈ lw_all := lw_g (lw_at lw_m9 24 rfl) rfl
theorem q2021 : (Jvm.Cond.lays "FlockHutsModel" "FlockHutsModel" "outLength" "I") ∈ lw_all := lw_g (lw_at lw_m9 25 rfl) rfl
theorem q2022 : (Jvm.Cond.soleField "FlockHutsModel" "outLength") ∈ lw_all := lw_g (lw_at lw_m9 26 rfl) rfl
theorem q2023 : (Jvm.Cond.lays "FlockHutsModel" "FlockHutsModel" "faultAt" "I") ∈ lw_all := lw_g (lw_at lw_m9 27 rfl) rfl
theorem q2024 : (Jvm.Cond.soleField "FlockHutsModel" "faultAt") ∈ lw_all := lw_g (lw_at lw_m9 28 rfl) rfl
theorem q2025 : (Jvm.Cond.lays "FlockHutsModel" "FlockHutsModel" "itemAt" "I") ∈ lw_all := lw_g (lw_at lw_m9 29 rfl) rfl
theorem q2026 : (Jvm.Cond.soleField "FlockHutsModel" "itemAt") ∈ lw_all := lw_g (lw_at lw_m9 30 rfl) rfl
theorem q2027 : (Jvm.Cond.lays "FlockHutsModel" "FlockHutsModel" "why" "I") ∈ lw_all := lw_g (lw_at lw_m9 31 rfl) rfl
theorem q2028 : (Jvm.Cond.soleField "FlockHutsModel" "why") ∈ lw_all := lw_g (lw_at lw_m9 32 rfl) rfl
theorem q2029 : (Jvm.Cond.lays "FlockHutsModel" "FlockHutsModel" "detail" "I") ∈ lw_all := lw_g (lw_at lw_m9 33 rfl) rfl
theorem q2030 : (Jvm.Cond.soleField "FlockHutsModel" "detail") ∈ lw_all := lw_g (lw_at lw_m9 34 rfl) rfl
theorem q2031 : (Jvm.Cond.lays "FlockHutsModel" "FlockHutsModel" "about" "I") ∈ lw_all := lw_g (lw_at lw_m9 35 rfl) rfl
theorem q2032 : (Jvm.Cond.soleField "FlockHutsModel" "about") ∈ lw_all := lw_g (lw_at lw_m9 36 rfl) rfl
theorem q2033 : (Jvm.Cond.lays "FlockHutsModel" "FlockHutsModel" "answer" "I") ∈ lw_all := lw_g (lw_at lw_m9 37 rfl) rfl
theorem q2034 : (Jvm.Cond.soleField "FlockHutsModel" "answer") ∈ lw_all := lw_g (lw_at lw_m9 38 rfl) rfl
theorem q2035 : (Jvm.Cond.lays "FlockHutsModel" "FlockHutsModel" "spot" "I") ∈ lw_all := lw_g (lw_at lw_m9 39 rfl) rfl
theorem q2036 : (Jvm.Cond.soleField "FlockHutsModel" "spot") ∈ lw_all := lw_g (lw_at lw_m9 40 rfl) rfl
theorem q2037 : (Jvm.Cond.lays "FlockHutsModel" "FlockHutsModel" "end" "I") ∈ lw_all := lw_g (lw_at lw_m9 41 rfl) rfl
theorem q2038 : (Jvm.Cond.soleField "FlockHutsModel" "end") ∈ lw_all := lw_g (lw_at lw_m9 42 rfl) rfl
theorem q2039 : (Jvm.Cond.lays "FlockHutsModel" "FlockHutsModel" "orders" "I") ∈ lw_all := lw_g (lw_at lw_m9 43 rfl) rfl
theorem q2040 : (Jvm.Cond.soleField "FlockHutsModel" "orders") ∈ lw_all := lw_g (lw_at lw_m9 44 rfl) rfl
theorem q2041 : (Jvm.Cond.lays "FlockHutsModel" "FlockHutsModel" "isWrong" "Z") ∈ lw_all := lw_g (lw_at lw_m9 45 rfl) rfl
theorem q2042 : (Jvm.Cond.soleField "FlockHutsModel" "isWrong") ∈ lw_all := lw_g (lw_at lw_m9 46 rfl) rfl
theorem q2043 : (Jvm.Cond.superclass "FlockHutsModel" "java/lang/Object") ∈ lw_all := lw_g (lw_at lw_m9 47 rfl) rfl
theorem q2045 : (Jvm.Cond.instanceMethod ({ cls := "FlockHutsModel", name := "thrown", desc := "()I" } : Jvm.MethodName)) ∈ lw_all := lw_g (lw_at lw_m9 49 rfl) rfl
theorem q2046 : (Jvm.Cond.selects "FlockHutsModel" ({ cls := "FlockHutsModel", name := "thrown", desc := "()I" } : Jvm.MethodName) ({ cls := "FlockHutsModel", name := "thrown", desc := "()I" } : Jvm.MethodName)) ∈ lw_all := lw_g (lw_at lw_m9 50 rfl) rfl
theorem q2047 : (Jvm.Cond.code ({ cls := "FlockHutsModel", name := "thrown", desc := "()I" } : Jvm.MethodName) prog_14_method_2_code (1 : Nat) (Option.some Jvm.ClassFile.FieldType.int)) ∈ lw_all := lw_g (lw_at lw_m9 51 rfl) rfl
theorem q2049 : (Jvm.Cond.instanceMethod ({ cls := "FlockHutsModel", name := "clear", desc := "()I" } : Jvm.MethodName)) ∈ lw_all := lw_g (lw_at lw_m9 53 rfl) rfl
theorem q2050 : (Jvm.Cond.selects "FlockHutsModel" ({ cls := "FlockHutsModel", name := "clear", desc := "()I" } : Jvm.MethodName) ({ cls := "FlockHutsModel", name := "clear", desc := "()I" } : Jvm.MethodName)) ∈ lw_all := lw_g (lw_at lw_m9 54 rfl) rfl
theorem q2051 : (Jvm.Cond.code ({ cls := "FlockHutsModel", name := "clear", desc := "()I" } : Jvm.MethodName) prog_14_method_43_code (2 : Nat) (Option.some Jvm.ClassFile.FieldType.int)) ∈ lw_all := lw_g (lw_at lw_m9 55 rfl) rfl
theorem q2053 : (Jvm.Cond.instanceMethod ({ cls := "FlockHutsModel", name := "sheep", desc := "(III)I" } : Jvm.MethodName)) ∈ lw_all := lw_g (lw_at lw_m9 57 rfl) rfl
theorem q2054 : (Jvm.Cond.selects "FlockHutsModel" ({ cls := "FlockHutsModel", name := "sheep", desc := "(III)I" } : Jvm.MethodName) ({ cls := "FlockHutsModel", name := "sheep", desc := "(III)I" } : Jvm.MethodName)) ∈ lw_all := lw_g (lw_at lw_m9 58 rfl) rfl
theorem q2055 : (Jvm.Cond.code ({ cls := "FlockHutsModel", name := "sheep", desc := "(III)I" } : Jvm.MethodName) prog_14_method_44_code (4 : Nat) (Option.some Jvm.ClassFile.FieldType.int)) ∈ lw_all := lw_g (lw_at lw_m9 59 rfl) rfl
theorem q2056 : (Jvm.Cond.methodLink "FlockHutsModel" (149 : Nat) ({ cls := "FlockHutsModel", name := "remembers", desc := "()V" } : Jvm.MethodName)) ∈ lw_all := lw_g (lw_at lw_m9 60 rfl) rfl
theorem q2057 : (Jvm.Cond.privateMethod ({ cls := "FlockHutsModel", name := "remembers", desc := "()V" } : Jvm.MethodName)) ∈ lw_tbl := lw_at lw_m9 61 rfl
theorem q2058 : (Jvm.Cond.instanceMethod ({ cls := "FlockHutsModel", name := "remembers", desc := "()V" } : Jvm.MethodName)) ∈ lw_all := lw_g (lw_at lw_m9 62 rfl) rfl
theorem q2059 : (Jvm.Cond.code ({ cls := "FlockHutsModel", name := "remembers", desc := "()V" } : Jvm.MethodName) prog_14_method_6_code (2 : Nat) (Option.none : Option Jvm.ClassFile.FieldType)) ∈ lw_all := lw_g (lw_at lw_m9 63 rfl) rfl
theorem q2060 : (Jvm.Cond.methodLink "FlockHutsModel" (152 : Nat) ({ cls := "FlockHutsModel", name := "comes", desc := "(III)I" } : Jvm.MethodName)) ∈ lw_all := lw_g (lw_at lw_m9 64 rfl) rfl
theorem q2061 : (Jvm.Cond.privateMethod ({ cls := "FlockHutsModel", name := "comes", desc := "(III)I" } : Jvm.MethodName)) ∈ lw_tbl := lw_at lw_m9 65 rfl
theorem q2062 : (Jvm.Cond.instanceMethod ({ cls := "FlockHutsModel", name := "comes", desc := "(III)I" } : Jvm.MethodName)) ∈ lw_all := lw_g (lw_at lw_m9 66 rfl) rfl
theorem q2063 : (Jvm.Cond.code ({ cls := "FlockHutsModel", name := "comes", desc := "(III)I" } : Jvm.MethodName) prog_14_method_32_code (5 : Nat) (Option.some Jvm.ClassFile.FieldType.int)) ∈ lw_all := lw_g (lw_at lw_m9 67 rfl) rfl
theorem q2064 : (Jvm.Cond.methodLink "FlockHutsModel" (126 : Nat) ({ cls := "FlockHutsModel", name := "isPlace", desc := "(II)Z" } : Jvm.MethodName)) ∈ lw_all := lw_g (lw_at lw_m9 68 rfl) rfl
theorem q2065 : (Jvm.Cond.static ({ cls := "FlockHutsModel", name := "isPlace", desc := "(II)Z" } : Jvm.MethodName)) ∈ lw_all := lw_g (lw_at lw_m9 69 rfl) rfl
theorem q2066 : (Jvm.Cond.code ({ cls := "FlockHutsModel", name := "isPlace", desc := "(II)Z" } : Jvm.MethodName) prog_14_method_13_code (2 : Nat) (Option.some Jvm.ClassFile.FieldType.boolean)) ∈ lw_all := lw_g (lw_at lw_m9 70 rfl) rfl
theorem q2067 : (Jvm.Cond.methodLink "FlockHutsModel" (78 : Nat) ({ cls := "FlockHutsModel", name := "in", desc := "(III)Z" } : Jvm.MethodName)) ∈ lw_all := lw_g (lw_at lw_m9 71 rfl) rfl
theorem q2068 : (Jvm.Cond.static ({ cls := "FlockHutsModel", name := "in", desc := "(III)Z" } : Jvm.MethodName)) ∈ lw_all := lw_g (lw_at lw_m9 72 rfl) rfl
theorem q2069 : (Jvm.Cond.code ({ cls := "FlockHutsModel", name := "in", desc := "(III)Z" } : Jvm.MethodName) prog_14_method_4_code (3 : Nat) (Option.some Jvm.ClassFile.FieldType.boolean)) ∈ lw_all := lw_g (lw_at lw_m9 73 rfl) rfl
theorem q2070 : (Jvm.Cond.methodLink "FlockHutsModel" (130 : Nat) ({ cls := "FlockHutsModel", name := "refused", desc := "(II)I" } : Jvm.MethodName)) ∈ lw_all := lw_g (lw_at lw_m9 74 rfl) rfl
theorem q2071 : (Jvm.Cond.privateMethod ({ cls := "FlockHutsModel", name := "refused", desc := "(II)I" } : Jvm.MethodName)) ∈ lw_tbl := lw_at lw_m9 75 rfl
theorem q2072 : (Jvm.Cond.instanceMethod ({ cls := "FlockHutsModel", name := "refused", desc := "(II)I" } : Jvm.MethodName)) ∈ lw_all := lw_g (lw_at lw_m9 76 rfl) rfl
theorem q2073 : (Jvm.Cond.code ({ cls := "FlockHutsModel", name := "refused", desc := "(II)I" } : Jvm.MethodName) prog_14_method_8_code (3 : Nat) (Option.some Jvm.ClassFile.FieldType.int)) ∈ lw_all := lw_g (lw_at lw_m9 77 rfl) rfl
theorem q2074 : (Jvm.Cond.methodLink "FlockHutsModel" (89 : Nat) ({ cls := "FlockHutsModel", name := "nearestTo", desc := "(II)I" } : Jvm.MethodName)) ∈ lw_all := lw_g (lw_at lw_m9 78 rfl) rfl
theorem q2075 : (Jvm.Cond.privateMethod ({ cls := "FlockHutsModel", name := "nearestTo", desc := "(II)I" } : Jvm.MethodName)) ∈ lw_tbl := lw_at lw_m9 79 rfl
theorem q2076 : (Jvm.Cond.instanceMethod ({ cls := "FlockHutsModel", name := "nearestTo", desc := "(II)I" } : Jvm.MethodName)) ∈ lw_all := lw_g (lw_at lw_m9 80 rfl) rfl
theorem q2077 : (Jvm.Cond.code ({ cls := "FlockHutsModel", name := "nearestTo", desc := "(II)I" } : Jvm.MethodName) prog_14_method_17_code (5 : Nat) (Option.some Jvm.ClassFile.FieldType.int)) ∈ lw_all := lw_g (lw_at lw_m9 81 rfl) rfl
theorem q2078 : (Jvm.Cond.methodLink "FlockHutsModel" (85 : Nat) ({ cls := "FlockHutsModel", name := "farTo", desc := "(III)I" } : Jvm.MethodName)) ∈ lw_all := lw_g (lw_at lw_m9 82 rfl) rfl
theorem q2079 : (Jvm.Cond.privateMethod ({ cls := "FlockHutsModel", name := "farTo", desc := "(III)I" } : Jvm.MethodName)) ∈ lw_tbl := lw_at lw_m9 83 rfl
theorem q2080 : (Jvm.Cond.instanceMethod ({ cls := "FlockHutsModel", name := "farTo", desc := "(III)I" } : Jvm.MethodName)) ∈ lw_all := lw_g (lw_at lw_m9 84 rfl) rfl
theorem q2081 : (Jvm.Cond.code ({ cls := "FlockHutsModel", name := "farTo", desc := "(III)I" } : Jvm.MethodName) prog_14_method_15_code (4 : Nat) (Option.some Jvm.ClassFile.FieldType.int)) ∈ lw_all := lw_g (lw_at lw_m9 85 rfl) rfl
theorem q2082 : (Jvm.Cond.methodLink "FlockHutsModel" (82 : Nat) ({ cls := "FlockHutsModel", name := "squared", desc := "(I)I" } : Jvm.MethodName)) ∈ lw_all := lw_g (lw_at lw_m9 86 rfl) rfl
theorem q2083 : (Jvm.Cond.static ({ cls := "FlockHutsModel", name := "squared", desc := "(I)I" } : Jvm.MethodName)) ∈ lw_all := lw_g (lw_at lw_m9 87 rfl) rfl
theorem q2084 : (Jvm.Cond.code ({ cls := "FlockHutsModel", name := "squared", desc := "(I)I" } : Jvm.MethodName) prog_14_method_14_code (1 : Nat) (Option.some Jvm.ClassFile.FieldType.int)) ∈ lw_all := lw_g (lw_at lw_m9 88 rfl) rfl
theorem q2085 : (Jvm.Cond.methodLink "FlockHutsModel" (133 : Nat) ({ cls := "FlockHutsModel", name := "done", desc := "(I)I" } : Jvm.MethodName)) ∈ lw_all := lw_g (lw_at lw_m9 89 rfl) rfl
theorem q2086 : (Jvm.Cond.privateMethod ({ cls := "FlockHutsModel", name := "done", desc := "(I)I" } : Jvm.MethodName)) ∈ lw_tbl := lw_at lw_m9 90 rfl
theorem q2087 : (Jvm.Cond.instanceMethod ({ cls := "FlockHutsModel", name := "done", desc := "(I)I" } : Jvm.MethodName)) ∈ lw_all := lw_g (lw_at lw_m9 91 rfl) rfl
theorem q2088 : (Jvm.Cond.code ({ cls := "FlockHutsModel", name := "done", desc := "(I)I" } : Jvm.MethodName) prog_14_method_9_code (2 : Nat) (Option.some Jvm.ClassFile.FieldType.int)) ∈ lw_all := lw_g (lw_at lw_m9 92 rfl) rfl
theorem q2089 : (Jvm.Cond.methodLink "FlockHutsModel" (155 : Nat) ({ cls := "FlockHutsModel", name := "ends", desc := "(II)I" } : Jvm.MethodName)) ∈ lw_all := lw_g (lw_at lw_m9 93 rfl) rfl
theorem q2090 : (Jvm.Cond.privateMethod ({ cls := "FlockHutsModel", name := "ends", desc := "(II)I" } : Jvm.MethodName)) ∈ lw_tbl := lw_at lw_m9 94 rfl
theorem q2091 : (Jvm.Cond.instanceMethod ({ cls := "FlockHutsModel", name := "ends", desc := "(II)I" } : Jvm.MethodName)) ∈ lw_all := lw_g (lw_at lw_m9 95 rfl) rfl
theorem q2092 : (Jvm.Cond.code ({ cls := "FlockHutsModel", name := "ends", desc := "(II)I" } : Jvm.MethodName) prog_14_method_10_code (3 : Nat) (Option.some Jvm.ClassFile.FieldType.int)) ∈ lw_all := lw_g (lw_at lw_m9 96 rfl) rfl
theorem q2093 : (Jvm.Cond.methodLink "FlockHutsModel" (65 : Nat) ({ cls := "FlockHutsModel", name := "changed", desc := "(I)I" } : Jvm.MethodName)) ∈ lw_all := lw_g (lw_at lw_m9 97 rfl) rfl
theorem q2094 : (Jvm.Cond.privateMethod ({ cls := "FlockHutsModel", name := "changed", desc := "(I)I" } : Jvm.MethodName)) ∈ lw_tbl := lw_at lw_m9 98 rfl
theorem q2095 : (Jvm.Cond.instanceMethod ({ cls := "FlockHutsModel", name := "changed", desc := "(I)I" } : Jvm.MethodName)) ∈ lw_all := lw_g (lw_at lw_m9 99 rfl) rfl
theorem q2096 : (Jvm.Cond.code ({ cls := "FlockHutsModel", name := "changed", desc := "(I)I" } : Jvm.MethodName) prog_14_method_7_code (3 : Nat) (Option.some Jvm.ClassFile.FieldType.int)) ∈ lw_all := lw_g (lw_at lw_m9 100 rfl) rfl
theorem q2097 : (Jvm.Cond.methodLink "FlockHutsModel" (69 : Nat) ({ cls := "FlockHutsModel", name := "fails", desc := "(I)I" } : Jvm.MethodName)) ∈ lw_all := lw_g (lw_at lw_m9 101 rfl) rfl
theorem q2098 : (Jvm.Cond.privateMethod ({ cls := "FlockHutsModel", name := "fails", desc := "(I)I" } : Jvm.MethodName)) ∈ lw_tbl := lw_at lw_m9 102 rfl
theorem q2099 : (Jvm.Cond.instanceMethod ({ cls := "FlockHutsModel", name := "fails", desc := "(I)I" } : Jvm.MethodName)) ∈ lw_all := lw_g (lw_at lw_m9 103 rfl) rfl
theorem q2100 : (Jvm.Cond.code ({ cls := "FlockHutsModel", name := "fails", desc := "(I)I" } : Jvm.MethodName) prog_14_method_3_code (2 : Nat) (Option.some Jvm.ClassFile.FieldType.int)) ∈ lw_all := lw_g (lw_at lw_m9 104 rfl) rfl
theorem q2102 : (Jvm.Cond.instanceMethod ({ cls := "FlockHutsModel", name := "hut", desc := "(II)I" } : Jvm.MethodName)) ∈ lw_all := lw_g (lw_at lw_m9 106 rfl) rfl
theorem q2103 : (Jvm.Cond.selects "FlockHutsModel" ({ cls := "FlockHutsModel", name := "hut", desc := "(II)I" } : Jvm.MethodName) ({ cls := "FlockHutsModel", name := "hut", desc := "(II)I" } : Jvm.MethodName)) ∈ lw_all := lw_g (lw_at lw_m9 107 rfl) rfl
theorem q2104 : (Jvm.Cond.code ({ cls := "FlockHutsModel", name := "hut", desc := "(II)I" } : Jvm.MethodName) prog_14_method_45_code (3 : Nat) (Option.some Jvm.ClassFile.FieldType.int)) ∈ lw_all := lw_g (lw_at lw_m9 108 rfl) rfl
theorem q2105 : (Jvm.Cond.methodLink "FlockHutsModel" (158 : Nat) ({ cls := "FlockHutsModel", name := "sets", desc := "(II)I" } : Jvm.MethodName)) ∈ lw_all := lw_g (lw_at lw_m9 109 rfl) rfl
theorem q2106 : (Jvm.Cond.privateMethod ({ cls := "FlockHutsModel", name := "sets", desc := "(II)I" } : Jvm.MethodName)) ∈ lw_tbl := lw_at lw_m9 110 rfl
theorem q2107 : (Jvm.Cond.instanceMethod ({ cls := "FlockHutsModel", name := "sets", desc := "(II)I" } : Jvm.MethodName)) ∈ lw_all := lw_g (lw_at lw_m9 111 rfl) rfl
theorem q2108 : (Jvm.Cond.code ({ cls := "FlockHutsModel", name := "sets", desc := "(II)I" } : Jvm.MethodName) prog_14_method_34_code (4 : Nat) (Option.some Jvm.ClassFile.FieldType.int)) ∈ lw_all := lw_g (lw_at lw_m9 112 rfl) rfl
theorem q2109 : (Jvm.Cond.methodLink "FlockHutsModel" (136 : Nat) ({ cls := "FlockHutsModel", name := "hutAt", desc := "(II)I" } : Jvm.MethodName)) ∈ lw_all := lw_g (lw_at lw_m9 113 rfl) rfl
theorem q2110 : (Jvm.Cond.privateMethod ({ cls := "FlockHutsModel", name := "hutAt", desc := "(II)I" } : Jvm.MethodName)) ∈ lw_tbl := lw_at lw_m9 114 rfl
theorem q2111 : (Jvm.Cond.instanceMethod ({ cls := "FlockHutsModel", name := "hutAt", desc := "(II)I" } : Jvm.MethodName)) ∈ lw_all := lw_g (lw_at lw_m9 115 rfl) rfl
theorem q2112 : (Jvm.Cond.code ({ cls := "FlockHutsModel", name := "hutAt", desc := "(II)I" } : Jvm.MethodName) prog_14_method_33_code (4 : Nat) (Option.some Jvm.ClassFile.FieldType.int)) ∈ lw_all := lw_g (lw_at lw_m9 116 rfl) rfl
theorem q2114 : (Jvm.Cond.instanceMethod ({ cls := "FlockHutsModel", name := "leave", desc := "(I)I" } : Jvm.MethodName)) ∈ lw_all := lw_g (lw_at lw_m9 118 rfl) rfl
theorem q2115 : (Jvm.Cond.selects "FlockHutsModel" ({ cls := "FlockHutsModel", name := "leave", desc := "(I)I" } : Jvm.MethodName) ({ cls := "FlockHutsModel", name := "leave", desc := "(I)I" } : Jvm.MethodName)) ∈ lw_all := lw_g (lw_at lw_m9 119 rfl) rfl
theorem q2116 : (Jvm.Cond.code ({ cls := "FlockHutsModel", name := "leave", desc := "(I)I" } : Jvm.MethodName) prog_14_method_46_code (2 : Nat) (Option.some Jvm.ClassFile.FieldType.int)) ∈ lw_all := lw_g (lw_at lw_m9 120 rfl) rfl
theorem q2117 : (Jvm.Cond.methodLink "FlockHutsModel" (161 : Nat) ({ cls := "FlockHutsModel", name := "goes", desc := "(I)I" } : Jvm.MethodName)) ∈ lw_all := lw_g (lw_at lw_m9 121 rfl) rfl
theorem q2118 : (Jvm.Cond.privateMethod ({ cls := "FlockHutsModel", name := "goes", desc := "(I)I" } : Jvm.MethodName)) ∈ lw_tbl := lw_at lw_m9 122 rfl
theorem q2119 : (Jvm.Cond.instanceMethod ({ cls := "FlockHutsModel", name := "goes", desc := "(I)I" } : Jvm.MethodName)) ∈ lw_all := lw_g (lw_at lw_m9 123 rfl) rfl
theorem q2120 : (Jvm.Cond.code ({ cls := "FlockHutsModel", name := "goes", desc := "(I)I" } : Jvm.MethodName) prog_14_method_35_code (5 : Nat) (Option.some Jvm.ClassFile.FieldType.int)) ∈ lw_all := lw_g (lw_at lw_m9 124 rfl) rfl
theorem q2121 : (Jvm.Cond.methodLink "FlockHutsModel" (139 : Nat) ({ cls := "FlockHutsModel", name := "isSheep", desc := "(I)Z" } : Jvm.MethodName)) ∈ lw_all := lw_g (lw_at lw_m9 125 rfl) rfl
theorem q2122 : (Jvm.Cond.privateMethod ({ cls := "FlockHutsModel", name := "isSheep", desc := "(I)Z" } : Jvm.MethodName)) ∈ lw_tbl := lw_at lw_m9 126 rfl
theorem q2123 : (Jvm.Cond.instanceMethod ({ cls := "FlockHutsModel", name := "isSheep", desc := "(I)Z" } : Jvm.MethodName)) ∈ lw_all := lw_g (lw_at lw_m9 127 rfl) rfl
theorem q2124 : (Jvm.Cond.code ({ cls := "FlockHutsModel", name := "isSheep", desc := "(I)Z" } : Jvm.MethodName) prog_14_method_11_code (2 : Nat) (Option.some Jvm.ClassFile.FieldType.boolean)) ∈ lw_all := lw_g (lw_at lw_m9 128 rfl) rfl
theorem q2126 : (Jvm.Cond.instanceMethod ({ cls := "FlockHutsModel", name := "strike", desc := "(I)I" } : Jvm.MethodName)) ∈ lw_all := lw_g (lw_at lw_m9 130 rfl) rfl
theorem q2127 : (Jvm.Cond.selects "FlockHutsModel" ({ cls := "FlockHutsModel", name := "strike", desc := "(I)I" } : Jvm.MethodName) ({ cls := "FlockHutsModel", name := "strike", desc := "(I)I" } : Jvm.MethodName)) ∈ lw_all := lw_g (lw_at lw_m9 131 rfl) rfl
theorem q2128 : (Jvm.Cond.code ({ cls := "FlockHutsModel", name := "strike", desc := "(I)I" } : Jvm.MethodName) prog_14_method_47_code (2 : Nat) (Option.some Jvm.ClassFile.FieldType.int)) ∈ lw_all := lw_g (lw_at lw_m9 132 rfl) rfl
theorem q2129 : (Jvm.Cond.methodLink "FlockHutsModel" (164 : Nat) ({ cls := "FlockHutsModel", name := "strikes", desc := "(I)I" } : Jvm.MethodName)) ∈ lw_all := lw_g (lw_at lw_m9 133 rfl) rfl
theorem q2130 : (Jvm.Cond.privateMethod ({ cls := "FlockHutsModel", name := "strikes", desc := "(I)I" } : Jvm.MethodName)) ∈ lw_tbl := lw_at lw_m9 134 rfl
theorem q2131 : (Jvm.Cond.instanceMethod ({ cls := "FlockHutsModel", name := "strikes", desc := "(I)I" } : Jvm.MethodName)) ∈ lw_all := lw_g (lw_at lw_m9 135 rfl) rfl
theorem q2132 : (Jvm.Cond.code ({ cls := "FlockHutsModel", name := "strikes", desc := "(I)I" } : Jvm.MethodName) prog_14_method_36_code (5 : Nat) (Option.some Jvm.ClassFile.FieldType.int)) ∈ lw_all := lw_g (lw_at lw_m9 136 rfl) rfl
theorem q2133 : (Jvm.Cond.methodLink "FlockHutsModel" (142 : Nat) ({ cls := "FlockHutsModel", name := "isHut", desc := "(I)Z" } : Jvm.MethodName)) ∈ lw_all := lw_g (lw_at lw_m9 137 rfl) rfl
theorem q2134 : (Jvm.Cond.privateMethod ({ cls := "FlockHutsModel", name := "isHut", desc := "(I)Z" } : Jvm.MethodName)) ∈ lw_tbl := lw_at lw_m9 138 rfl
theorem q2135 : (Jvm.Cond.instanceMethod ({ cls := "FlockHutsModel", name := "isHut", desc := "(I)Z" } : Jvm.MethodName)) ∈ lw_all := lw_g (lw_at lw_m9 139 rfl) rfl
theorem q2136 : (Jvm.Cond.code ({ cls := "FlockHutsModel", name := "isHut", desc := "(I)Z" } : Jvm.MethodName) prog_14_method_12_code (2 : Nat) (Option.some Jvm.ClassFile.FieldType.boolean)) ∈ lw_all := lw_g (lw_at lw_m9 140 rfl) rfl
theorem q2137 : (Jvm.Cond.methodLink "FlockHutsModel" (113 : Nat) ({ cls := "FlockHutsModel", name := "flock", desc := "(I)I" } : Jvm.MethodName)) ∈ lw_all := lw_g (lw_at lw_m9 141 rfl) rfl
theorem q2138 : (Jvm.Cond.privateMethod ({ cls := "FlockHutsModel", name := "flock", desc := "(I)I" } : Jvm.MethodName)) ∈ lw_tbl := lw_at lw_m9 142 rfl
theorem q2139 : (Jvm.Cond.instanceMethod ({ cls := "FlockHutsModel", name := "flock", desc := "(I)I" } : Jvm.MethodName)) ∈ lw_all := lw_g (lw_at lw_m9 143 rfl) rfl
theorem q2140 : (Jvm.Cond.code ({ cls := "FlockHutsModel", name := "flock", desc := "(I)I" } : Jvm.MethodName) prog_14_method_19_code (4 : Nat) (Option.some Jvm.ClassFile.FieldType.int)) ∈ lw_all := lw_g (lw_at lw_m9 144 rfl) rfl
theorem q2142 : (Jvm.Cond.instanceMethod ({ cls := "FlockHutsModel", name := "move", desc := "(III)I" } : Jvm.MethodName)) ∈ lw_all := lw_g (lw_at lw_m9 146 rfl) rfl
theorem q2143 : (Jvm.Cond.selects "FlockHutsModel" ({ cls := "FlockHutsModel", name := "move", desc := "(III)I" } : Jvm.MethodName) ({ cls := "FlockHutsModel", name := "move", desc := "(III)I" } : Jvm.MethodName)) ∈ lw_all := lw_g (lw_at lw_m9 147 rfl) rfl
theorem q2144 : (Jvm.Cond.code ({ cls := "FlockHutsModel", name := "move", desc := "(III)I" } : Jvm.MethodName) prog_14_method_48_code (4 : Nat) (Option.some Jvm.ClassFile.FieldType.int)) ∈ lw_all := lw_g (lw_at lw_m9 148 rfl) rfl
theorem q2145 : (Jvm.Cond.methodLink "FlockHutsModel" (167 : Nat) ({ cls := "FlockHutsModel", name := "moves", desc := "(III)I" } : Jvm.MethodName)) ∈ lw_all := lw_g (lw_at lw_m9 149 rfl) rfl
theorem q2146 : (Jvm.Cond.privateMethod ({ cls := "FlockHutsModel", name := "moves", desc := "(III)I" } : Jvm.MethodName)) ∈ lw_tbl := lw_at lw_m9 150 rfl
theorem q2147 : (Jvm.Cond.instanceMethod ({ cls := "FlockHutsModel", name := "moves", desc := "(III)I" } : Jvm.MethodName)) ∈ lw_all := lw_g (lw_at lw_m9 151 rfl) rfl
theorem q2148 : (Jvm.Cond.code ({ cls := "FlockHutsModel", name := "moves", desc := "(III)I" } : Jvm.MethodName) prog_14_method_37_code (5 : Nat) (Option.some Jvm.ClassFile.FieldType.int)) ∈ lw_all := lw_g (lw_at lw_m9 152 rfl) rfl
theorem q2150 : (Jvm.Cond.instanceMethod ({ cls := "FlockHutsModel", name := "weigh", desc := "(II)I" } : Jvm.MethodName)) ∈ lw_all := lw_g (lw_at lw_m9 154 rfl) rfl
theorem q2151 : (Jvm.Cond.selects "FlockHutsModel" ({ cls := "FlockHutsModel", name := "weigh", desc := "(II)I" } : Jvm.MethodName) ({ cls := "FlockHutsModel", name := "weigh", desc := "(II)I" } : Jvm.MethodName)) ∈ lw_all := lw_g (lw_at lw_m9 155 rfl) rfl
theorem q2152 : (Jvm.Cond.code ({ cls := "FlockHutsModel", name := "weigh", desc := "(II)I" } : Jvm.MethodName) prog_14_method_49_code (3 : Nat) (Option.some Jvm.ClassFile.FieldType.int)) ∈ lw_all := lw_g (lw_at lw_m9 156 rfl) rfl
theorem q2153 : (Jvm.Cond.methodLink "FlockHutsModel" (170 : Nat) ({ cls := "FlockHutsModel", name := "weighs", desc := "(II)I" } : Jvm.MethodName)) ∈ lw_all := lw_g (lw_at lw_m9 157 rfl) rfl
theorem q2154 : (Jvm.Cond.privateMethod ({ cls := "FlockHutsModel", name := "weighs", desc := "(II)I" } : Jvm.MethodName)) ∈ lw_tbl := lw_at lw_m9 158 rfl
theorem q2155 : (Jvm.Cond.instanceMethod ({ cls := "FlockHutsModel", name := "weighs", desc := "(II)I" } : Jvm.MethodName)) ∈ lw_all := lw_g (lw_at lw_m9 159 rfl) rfl
theorem q2156 : (Jvm.Cond.code ({ cls := "FlockHutsModel", name := "weighs", desc := "(II)I" } : Jvm.MethodName) prog_14_method_38_code (4 : Nat) (Option.some Jvm.ClassFile.FieldType.int)) ∈ lw_all := lw_g (lw_at lw_m9 160 rfl) rfl
theorem q2158 : (Jvm.Cond.instanceMethod ({ cls := "FlockHutsModel", name := "sheepOf", desc := "(II)I" } : Jvm.MethodName)) ∈ lw_all := lw_g (lw_at lw_m9 162 rfl) rfl
theorem q2159 : (Jvm.Cond.selects "FlockHutsModel" ({ cls := "FlockHutsModel", name := "sheepOf", desc := "(II)I" } : Jvm.MethodName) ({ cls := "FlockHutsModel", name := "sheepOf", desc := "(II)I" } : Jvm.MethodName)) ∈ lw_all := lw_g (lw_at lw_m9 163 rfl) rfl
theorem q2160 : (Jvm.Cond.code ({ cls := "FlockHutsModel", name := "sheepOf", desc := "(II)I" } : Jvm.MethodName) prog_14_method_50_code (4 : Nat) (Option.some Jvm.ClassFile.FieldType.int)) ∈ lw_all := lw_g (lw_at lw_m9 164 rfl) rfl
theorem q2161 : (Jvm.Cond.methodLink "FlockHutsModel" (93 : Nat) ({ cls := "FlockHutsModel", name := "far", desc := "(II)I" } : Jvm.MethodName)) ∈ lw_all := lw_g (lw_at lw_m9 165 rfl) rfl
theorem q2162 : (Jvm.Cond.privateMethod ({ cls := "FlockHutsModel", name := "far", desc := "(II)I" } : Jvm.MethodName)) ∈ lw_tbl := lw_at lw_m9 166 rfl
theorem q2163 : (Jvm.Cond.instanceMethod ({ cls := "FlockHutsModel", name := "far", desc := "(II)I" } : Jvm.MethodName)) ∈ lw_all := lw_g (lw_at lw_m9 167 rfl) rfl
theorem q2164 : (Jvm.Cond.code ({ cls := "FlockHutsModel", name := "far", desc := "(II)I" } : Jvm.MethodName) prog_14_method_16_code (3 : Nat) (Option.some Jvm.ClassFile.FieldType.int)) ∈ lw_all := lw_g (lw_at lw_m9 168 rfl) rfl
theorem q2165 : (Jvm.Cond.methodLink "FlockHutsModel" (99 : Nat) ({ cls := "FlockHutsModel", name := "nearestOf", desc := "(I)I" } : Jvm.MethodName)) ∈ lw_all := lw_g (lw_at lw_m9 169 rfl) rfl
theorem q2166 : (Jvm.Cond.privateMethod ({ cls := "FlockHutsModel", name := "nearestOf", desc := "(I)I" } : Jvm.MethodName)) ∈ lw_tbl := lw_at lw_m9 170 rfl
theorem q2167 : (Jvm.Cond.instanceMethod ({ cls := "FlockHutsModel", name := "nearestOf", desc := "(I)I" } : Jvm.MethodName)) ∈ lw_all := lw_g (lw_at lw_m9 171 rfl) rfl
theorem q2168 : (Jvm.Cond.code ({ cls := "FlockHutsModel", name := "nearestOf", desc := "(I)I" } : Jvm.MethodName) prog_14_method_18_code (2 : Nat) (Option.some Jvm.ClassFile.FieldType.int)) ∈ lw_all := lw_g (lw_at lw_m9 172 rfl) rfl
theorem q2169 : (Jvm.Cond.methodLink "FlockHutsModel" (102 : Nat) ({ cls := "FlockHutsModel", name := "isStray", desc := "(I)Z" } : Jvm.MethodName)) ∈ lw_all := lw_g (lw_at lw_m9 173 rfl) rfl
theorem q2170 : (Jvm.Cond.privateMethod ({ cls := "FlockHutsModel", name := "isStray", desc := "(I)Z" } : Jvm.MethodName)) ∈ lw_tbl := lw_at lw_m9 174 rfl
theorem q2171 : (Jvm.Cond.instanceMethod ({ cls := "FlockHutsModel", name := "isStray", desc := "(I)Z" } : Jvm.MethodName)) ∈ lw_all := lw_g (lw_at lw_m9 175 rfl) rfl
theorem q2172 : (Jvm.Cond.code ({ cls := "FlockHutsModel", name := "isStray", desc := "(I)Z" } : Jvm.MethodName) prog_14_method_23_code (3 : Nat) (Option.some Jvm.ClassFile.FieldType.boolean)) ∈ lw_all := lw_g (lw_at lw_m9 176 rfl) rfl
theorem q2174 : (Jvm.Cond.instanceMethod ({ cls := "FlockHutsModel", name := "hutOf", desc := "(II)I" } : Jvm.MethodName)) ∈ lw_all := lw_g (lw_at lw_m9 178 rfl) rfl
theorem q2175 : (Jvm.Cond.selects "FlockHutsModel" ({ cls := "FlockHutsModel", name := "hutOf", desc := "(II)I" } : Jvm.MethodName) ({ cls := "FlockHutsModel", name := "hutOf", desc := "(II)I" } : Jvm.MethodName)) ∈ lw_all := lw_g (lw_at lw_m9 179 rfl) rfl
theorem q2176 : (Jvm.Cond.code ({ cls := "FlockHutsModel", name := "hutOf", desc := "(II)I" } : Jvm.MethodName) prog_14_method_53_code (3 : Nat) (Option.some Jvm.ClassFile.FieldType.int)) ∈ lw_all := lw_g (lw_at lw_m9 180 rfl) rfl
theorem q2177 : (Jvm.Cond.methodLink "FlockHutsModel" (106 : Nat) ({ cls := "FlockHutsModel", name := "weights", desc := "(I)I" } : Jvm.MethodName)) ∈ lw_all := lw_g (lw_at lw_m9 181 rfl) rfl
theorem q2178 : (Jvm.Cond.privateMethod ({ cls := "FlockHutsModel", name := "weights", desc := "(I)I" } : Jvm.MethodName)) ∈ lw_tbl := lw_at lw_m9 182 rfl
theorem q2179 : (Jvm.Cond.instanceMethod ({ cls := "FlockHutsModel", name := "weights", desc := "(I)I" } : Jvm.MethodName)) ∈ lw_all := lw_g (lw_at lw_m9 183 rfl) rfl
theorem q2180 : (Jvm.Cond.code ({ cls := "FlockHutsModel", name := "weights", desc := "(I)I" } : Jvm.MethodName) prog_14_method_20_code (4 : Nat) (Option.some Jvm.ClassFile.FieldType.int)) ∈ lw_all := lw_g (lw_at lw_m9 184 rfl) rfl
theorem q2181 : (Jvm.Cond.methodLink "FlockHutsModel" (96 : Nat) ({ cls := "FlockHutsModel", name := "spreadOf", desc := "(I)I" } : Jvm.MethodName)) ∈ lw_all := lw_g (lw_at lw_m9 185 rfl) rfl
theorem q2182 : (Jvm.Cond.privateMethod ({ cls := "FlockHutsModel", name := "spreadOf", desc := "(I)I" } : Jvm.MethodName)) ∈ lw_tbl := lw_at lw_m9 186 rfl
theorem q2183 : (Jvm.Cond.instanceMethod ({ cls := "FlockHutsModel", name := "spreadOf", desc := "(I)I" } : Jvm.MethodName)) ∈ lw_all := lw_g (lw_at lw_m9 187 rfl) rfl
theorem q2184 : (Jvm.Cond.code ({ cls := "FlockHutsModel", name := "spreadOf", desc := "(I)I" } : Jvm.MethodName) prog_14_method_21_code (4 : Nat) (Option.some Jvm.ClassFile.FieldType.int)) ∈ lw_all := lw_g (lw_at lw_m9 188 rfl) rfl
theorem q2185 : (Jvm.Cond.methodLink "FlockHutsModel" (173 : Nat) ({ cls := "FlockHutsModel", name := "farthest", desc := "(I)I" } : Jvm.MethodName)) ∈ lw_all := lw_g (lw_at lw_m9 189 rfl) rfl
theorem q2186 : (Jvm.Cond.privateMethod ({ cls := "FlockHutsModel", name := "farthest", desc := "(I)I" } : Jvm.MethodName)) ∈ lw_tbl := lw_at lw_m9 190 rfl
theorem q2187 : (Jvm.Cond.instanceMethod ({ cls := "FlockHutsModel", name := "farthest", desc := "(I)I" } : Jvm.MethodName)) ∈ lw_all := lw_g (lw_at lw_m9 191 rfl) rfl
theorem q2188 : (Jvm.Cond.code ({ cls := "FlockHutsModel", name := "farthest", desc := "(I)I" } : Jvm.MethodName) prog_14_method_51_code (4 : Nat) (Option.some Jvm.ClassFile.FieldType.int)) ∈ lw_all := lw_g (lw_at lw_m9 192 rfl) rfl
theorem q2189 : (Jvm.Cond.methodLink "FlockHutsModel" (176 : Nat) ({ cls := "FlockHutsModel", name := "dogsAt", desc := "(I)I" } : Jvm.MethodName)) ∈ lw_all := lw_g (lw_at lw_m9 193 rfl) rfl
theorem q2190 : (Jvm.Cond.privateMethod ({ cls := "FlockHutsModel", name := "dogsAt", desc := "(I)I" } : Jvm.MethodName)) ∈ lw_tbl := lw_at lw_m9 194 rfl
theorem q2191 : (Jvm.Cond.instanceMethod ({ cls := "FlockHutsModel", name := "dogsAt", desc := "(I)I" } : Jvm.MethodName)) ∈ lw_all := lw_g (lw_at lw_m9 195 rfl) rfl
theorem q2192 : (Jvm.Cond.code ({ cls := "FlockHutsModel", name := "dogsAt", desc := "(I)I" } : Jvm.MethodName) prog_14_method_52_code (4 : Nat) (Option.some Jvm.ClassFile.FieldType.int)) ∈ lw_all := lw_g (lw_at lw_m9 196 rfl) rfl
theorem q2194 : (Jvm.Cond.instanceMethod ({ cls := "FlockHutsModel", name := "round", desc := "()I" } : Jvm.MethodName)) ∈ lw_all := lw_g (lw_at lw_m9 198 rfl) rfl
theorem q2195 : (Jvm.Cond.selects "FlockHutsModel" ({ cls := "FlockHutsModel", name := "round", desc := "()I" } : Jvm.MethodName) ({ cls := "FlockHutsModel", name := "round", desc := "()I" } : Jvm.MethodName)) ∈ lw_all := lw_g (lw_at lw_m9 199 rfl) rfl
theorem q2196 : (Jvm.Cond.code ({ cls := "FlockHutsModel", name := "round", desc := "()I" } : Jvm.MethodName) prog_14_method_54_code (1 : Nat) (Option.some Jvm.ClassFile.FieldType.int)) ∈ lw_all := lw_g (lw_at lw_m9 200 rfl) rfl
theorem q2197 : (Jvm.Cond.methodLink "FlockHutsModel" (179 : Nat) ({ cls := "FlockHutsModel", name := "rounds", desc := "()I" } : Jvm.MethodName)) ∈ lw_all := lw_g (lw_at lw_m9 201 rfl) rfl
theorem q2198 : (Jvm.Cond.privateMethod ({ cls := "FlockHutsModel", name := "rounds", desc := "()I" } : Jvm.MethodName)) ∈ lw_tbl := lw_at lw_m9 202 rfl
theorem q2199 : (Jvm.Cond.instanceMethod ({ cls := "FlockHutsModel", name := "rounds", desc := "()I" } : Jvm.MethodName)) ∈ lw_all := lw_g (lw_at lw_m9 203 rfl) rfl
theorem q2200 : (Jvm.Cond.code ({ cls := "FlockHutsModel", name := "rounds", desc := "()I" } : Jvm.MethodName) prog_14_method_39_code (1 : Nat) (Option.some Jvm.ClassFile.FieldType.int)) ∈ lw_all := lw_g (lw_at lw_m9 204 rfl) rfl
theorem q2201 : (Jvm.Cond.methodLink "FlockHutsModel" (123 : Nat) ({ cls := "FlockHutsModel", name := "goesRound", desc := "()I" } : Jvm.MethodName)) ∈ lw_all := lw_g (lw_at lw_m9 205 rfl) rfl
theorem q2202 : (Jvm.Cond.privateMethod ({ cls := "FlockHutsModel", name := "goesRound", desc := "()I" } : Jvm.MethodName)) ∈ lw_tbl := lw_at lw_m9 206 rfl
theorem q2203 : (Jvm.Cond.instanceMethod ({ cls := "FlockHutsModel", name := "goesRound", desc := "()I" } : Jvm.MethodName)) ∈ lw_all := lw_g (lw_at lw_m9 207 rfl) rfl
theorem q2204 : (Jvm.Cond.code ({ cls := "FlockHutsModel", name := "goesRound", desc := "()I" } : Jvm.MethodName) prog_14_method_28_code (4 : Nat) (Option.some Jvm.ClassFile.FieldType.int)) ∈ lw_all := lw_g (lw_at lw_m9 208 rfl) rfl
theorem q2205 : (Jvm.Cond.methodLink "FlockHutsModel" (109 : Nat) ({ cls := "FlockHutsModel", name := "belongs", desc := "(II)V" } : Jvm.MethodName)) ∈ lw_all := lw_g (lw_at lw_m9 209 rfl) rfl
theorem q2206 : (Jvm.Cond.privateMethod ({ cls := "FlockHutsModel", name := "belongs", desc := "(II)V" } : Jvm.MethodName)) ∈ lw_tbl := lw_at lw_m9 210 rfl
theorem q2207 : (Jvm.Cond.instanceMethod ({ cls := "FlockHutsModel", name := "belongs", desc := "(II)V" } : Jvm.MethodName)) ∈ lw_all := lw_g (lw_at lw_m9 211 rfl) rfl
theorem q2208 : (Jvm.Cond.code ({ cls := "FlockHutsModel", name := "belongs", desc := "(II)V" } : Jvm.MethodName) prog_14_method_26_code (3 : Nat) (Option.none : Option Jvm.ClassFile.FieldType)) ∈ lw_all := lw_g (lw_at lw_m9 212 rfl) rfl
theorem q2209 : (Jvm.Cond.methodLink "FlockHutsModel" (116 : Nat) ({ cls := "FlockHutsModel", name := "middle", desc := "(II)I" } : Jvm.MethodName)) ∈ lw_all := lw_g (lw_at lw_m9 213 rfl) rfl
theorem q2210 : (Jvm.Cond.privateMethod ({ cls := "FlockHutsModel", name := "middle", desc := "(II)I" } : Jvm.MethodName)) ∈ lw_tbl := lw_at lw_m9 214 rfl
theorem q2211 : (Jvm.Cond.instanceMethod ({ cls := "FlockHutsModel", name := "middle", desc := "(II)I" } : Jvm.MethodName)) ∈ lw_all := lw_g (lw_at lw_m9 215 rfl) rfl
theorem q2212 : (Jvm.Cond.code ({ cls := "FlockHutsModel", name := "middle", desc := "(II)I" } : Jvm.MethodName) prog_14_method_25_code (5 : Nat) (Option.some Jvm.ClassFile.FieldType.int)) ∈ lw_all := lw_g (lw_at lw_m9 216 rfl) rfl
theorem q2213 : (Jvm.Cond.methodLink "FlockHutsModel" (119 : Nat) ({ cls := "FlockHutsModel", name := "outlier", desc := "()I" } : Jvm.MethodName)) ∈ lw_all := lw_g (lw_at lw_m9 217 rfl) rfl
theorem q2214 : (Jvm.Cond.privateMethod ({ cls := "FlockHutsModel", name := "outlier", desc := "()I" } : Jvm.MethodName)) ∈ lw_tbl := lw_at lw_m9 218 rfl
theorem q2215 : (Jvm.Cond.instanceMethod ({ cls := "FlockHutsModel", name := "outlier", desc := "()I" } : Jvm.MethodName)) ∈ lw_all := lw_g (lw_at lw_m9 219 rfl) rfl
theorem q2216 : (Jvm.Cond.code ({ cls := "FlockHutsModel", name := "outlier", desc := "()I" } : Jvm.MethodName) prog_14_method_27_code (6 : Nat) (Option.some Jvm.ClassFile.FieldType.int)) ∈ lw_all := lw_g (lw_at lw_m9 220 rfl) rfl
theorem q2218 : (Jvm.Cond.instanceMethod ({ cls := "FlockHutsModel", name := "settle", desc := "(I)I" } : Jvm.MethodName)) ∈ lw_all := lw_g (lw_at lw_m9 222 rfl) rfl
theorem q2219 : (Jvm.Cond.selects "FlockHutsModel" ({ cls := "FlockHutsModel", name := "settle", desc := "(I)I" } : Jvm.MethodName) ({ cls := "FlockHutsModel", name := "settle", desc := "(I)I" } : Jvm.MethodName)) ∈ lw_all := lw_g (lw_at lw_m9 223 rfl) rfl
theorem q2220 : (Jvm.Cond.code ({ cls := "FlockHutsModel", name := "settle", desc := "(I)I" } : Jvm.MethodName) prog_14_method_55_code (2 : Nat) (Option.some Jvm.ClassFile.FieldType.int)) ∈ lw_all := lw_g (lw_at lw_m9 224 rfl) rfl
theorem q2221 : (Jvm.Cond.methodLink "FlockHutsModel" (182 : Nat) ({ cls := "FlockHutsModel", name := "settles", desc := "(I)I" } : Jvm.MethodName)) ∈ lw_all := lw_g (lw_at lw_m9 225 rfl) rfl
theorem q2222 : (Jvm.Cond.privateMethod ({ cls := "FlockHutsModel", name := "settles", desc := "(I)I" } : Jvm.MethodName)) ∈ lw_tbl := lw_at lw_m9 226 rfl
theorem q2223 : (Jvm.Cond.instanceMethod ({ cls := "FlockHutsModel", name := "settles", desc := "(I)I" } : Jvm.MethodName)) ∈ lw_all := lw_g (lw_at lw_m9 227 rfl) rfl
theorem q2224 : (Jvm.Cond.code ({ cls := "FlockHutsModel", name := "settles", desc := "(I)I" } : Jvm.MethodName) prog_14_method_40_code (4 : Nat) (Option.some Jvm.ClassFile.FieldType.int)) ∈ lw_all := lw_g (lw_at lw_m9 228 rfl) rfl
theorem q2225 : (Jvm.Cond.methodLink "FlockHutsModel" (145 : Nat) ({ cls := "FlockHutsModel", name := "isStillNow", desc := "()Z" } : Jvm.MethodName)) ∈ lw_all := lw_g (lw_at lw_m9 229 rfl) rfl
theorem q2226 : (Jvm.Cond.privateMethod ({ cls := "FlockHutsModel", name := "isStillNow", desc := "()Z" } : Jvm.MethodName)) ∈ lw_tbl := lw_at lw_m9 230 rfl
theorem q2227 : (Jvm.Cond.instanceMethod ({ cls := "FlockHutsModel", name := "isStillNow", desc := "()Z" } : Jvm.MethodName)) ∈ lw_all := lw_g (lw_at lw_m9 231 rfl) rfl
theorem q2228 : (Jvm.Cond.code ({ cls := "FlockHutsModel", name := "isStillNow", desc := "()Z" } : Jvm.MethodName) prog_14_method_29_code (3 : Nat) (Option.some Jvm.ClassFile.FieldType.boolean)) ∈ lw_all := lw_g (lw_at lw_m9 232 rfl) rfl
theorem q2230 : (Jvm.Cond.instanceMethod ({ cls := "FlockHutsModel", name := "isStill", desc := "()Z" } : Jvm.MethodName)) ∈ lw_all := lw_g (lw_at lw_m9 234 rfl) rfl
theorem q2231 : (Jvm.Cond.selects "FlockHutsModel" ({ cls := "FlockHutsModel", name := "isStill", desc := "()Z" } : Jvm.MethodName) ({ cls := "FlockHutsModel", name := "isStill", desc := "()Z" } : Jvm.MethodName)) ∈ lw_all := lw_g (lw_at lw_m9 235 rfl) rfl
theorem q2232 : (Jvm.Cond.code ({ cls := "FlockHutsModel", name := "isStill", desc := "()Z" } : Jvm.MethodName) prog_14_method_56_code (1 : Nat) (Option.some Jvm.ClassFile.FieldType.boolean)) ∈ lw_all := lw_g (lw_at lw_m9 236 rfl) rfl
theorem q2234 : (Jvm.Cond.instanceMethod ({ cls := "FlockHutsModel", name := "roundsToStill", desc := "()I" } : Jvm.MethodName)) ∈ lw_all := lw_g (lw_at lw_m9 238 rfl) rfl
theorem q2235 : (Jvm.Cond.selects "FlockHutsModel" ({ cls := "FlockHutsModel", name := "roundsToStill", desc := "()I" } : Jvm.MethodName) ({ cls := "FlockHutsModel", name := "roundsToStill", desc := "()I" } : Jvm.MethodName)) ∈ lw_all := lw_g (lw_at lw_m9 239 rfl) rfl
theorem q2236 : (Jvm.Cond.code ({ cls := "FlockHutsModel", name := "roundsToStill", desc := "()I" } : Jvm.MethodName) prog_14_method_57_code (3 : Nat) (Option.some Jvm.ClassFile.FieldType.int)) ∈ lw_all := lw_g (lw_at lw_m10 0 rfl) rfl
theorem q2237 : (Jvm.Cond.methodLink "FlockHutsModel" (185 : Nat) ({ cls := "FlockHutsModel", name := "thinks", desc := "()V" } : Jvm.MethodName)) ∈ lw_all := lw_g (lw_at lw_m10 1 rfl) rfl
theorem q2238 : (Jvm.Cond.privateMethod ({ cls := "FlockHutsModel", name := "thinks", desc := "()V" } : Jvm.MethodName)) ∈ lw_tbl := lw_at lw_m10 2 rfl
theorem q2239 : (Jvm.Cond.instanceMethod ({ cls := "FlockHutsModel", name := "thinks", desc := "()V" } : Jvm.MethodName)) ∈ lw_all := lw_g (lw_at lw_m10 3 rfl) rfl
theorem q2240 : (Jvm.Cond.code ({ cls := "FlockHutsModel", name := "thinks", desc := "()V" } : Jvm.MethodName) prog_14_method_30_code (2 : Nat) (Option.none : Option Jvm.ClassFile.FieldType)) ∈ lw_all := lw_g (lw_at lw_m10 4 rfl) rfl
theorem q2241 : (Jvm.Cond.methodLink "FlockHutsModel" (188 : Nat) ({ cls := "FlockHutsModel", name := "forgets", desc := "()V" } : Jvm.MethodName)) ∈ lw_all := lw_g (lw_at lw_m10 5 rfl) rfl
theorem q2242 : (Jvm.Cond.privateMethod ({ cls := "FlockHutsModel", name := "forgets", desc := "()V" } : Jvm.MethodName)) ∈ lw_tbl := lw_at lw_m10 6 rfl
theorem q2243 : (Jvm.Cond.instanceMethod ({ cls := "FlockHutsModel", name := "forgets", desc := "()V" } : Jvm.MethodName)) ∈ lw_all := lw_g (lw_at lw_m10 7 rfl) rfl
theorem q2244 : (Jvm.Cond.code ({ cls := "FlockHutsModel", name := "forgets", desc := "()V" } : Jvm.MethodName) prog_14_method_31_code (2 : Nat) (Option.none : Option Jvm.ClassFile.FieldType)) ∈ lw_all := lw_g (lw_at lw_m10 8 rfl) rfl
theorem q2246 : (Jvm.Cond.instanceMethod ({ cls := "FlockHutsModel", name := "spread", desc := "(Z)I" } : Jvm.MethodName)) ∈ lw_all := lw_g (lw_at lw_m10 10 rfl) rfl
theorem q2247 : (Jvm.Cond.selects "FlockHutsModel" ({ cls := "FlockHutsModel", name := "spread", desc := "(Z)I" } : Jvm.MethodName) ({ cls := "FlockHutsModel", name := "spread", desc := "(Z)I" } : Jvm.MethodName)) ∈ lw_all := lw_g (lw_at lw_m10 11 rfl) rfl
theorem q2248 : (Jvm.Cond.code ({ cls := "FlockHutsModel", name := "spread", desc := "(Z)I" } : Jvm.MethodName) prog_14_method_58_code (2 : Nat) (Option.some Jvm.ClassFile.FieldType.int)) ∈ lw_all := lw_g (lw_at lw_m10 12 rfl) rfl
theorem q2249 : (Jvm.Cond.methodLink "FlockHutsModel" (191 : Nat) ({ cls := "FlockHutsModel", name := "spreads", desc := "()I" } : Jvm.MethodName)) ∈ lw_all := lw_g (lw_at lw_m10 13 rfl) rfl
theorem q2250 : (Jvm.Cond.privateMethod ({ cls := "FlockHutsModel", name := "spreads", desc := "()I" } : Jvm.MethodName)) ∈ lw_tbl := lw_at lw_m10 14 rfl
theorem q2251 : (Jvm.Cond.instanceMethod ({ cls := "FlockHutsModel", name := "spreads", desc := "()I" } : Jvm.MethodName)) ∈ lw_all := lw_g (lw_at lw_m10 15 rfl) rfl
theorem q2252 : (Jvm.Cond.code ({ cls := "FlockHutsModel", name := "spreads", desc := "()I" } : Jvm.MethodName) prog_14_method_22_code (3 : Nat) (Option.some Jvm.ClassFile.FieldType.int)) ∈ lw_all := lw_g (lw_at lw_m10 16 rfl) rfl
theorem q2254 : (Jvm.Cond.instanceMethod ({ cls := "FlockHutsModel", name := "spreadAfter", desc := "(I)I" } : Jvm.MethodName)) ∈ lw_all := lw_g (lw_at lw_m10 18 rfl) rfl
theorem q2255 : (Jvm.Cond.selects "FlockHutsModel" ({ cls := "FlockHutsModel", name := "spreadAfter", desc := "(I)I" } : Jvm.MethodName) ({ cls := "FlockHutsModel", name := "spreadAfter", desc := "(I)I" } : Jvm.MethodName)) ∈ lw_all := lw_g (lw_at lw_m10 19 rfl) rfl
theorem q2256 : (Jvm.Cond.code ({ cls := "FlockHutsModel", name := "spreadAfter", desc := "(I)I" } : Jvm.MethodName) prog_14_method_59_code (4 : Nat) (Option.some Jvm.ClassFile.FieldType.int)) ∈ lw_all := lw_g (lw_at lw_m10 20 rfl) rfl
theorem q2258 : (Jvm.Cond.instanceMethod ({ cls := "FlockHutsModel", name := "spreadWith", desc := "(II)I" } : Jvm.MethodName)) ∈ lw_all := lw_g (lw_at lw_m10 22 rfl) rfl
theorem q2259 : (Jvm.Cond.selects "FlockHutsModel" ({ cls := "FlockHutsModel", name := "spreadWith", desc := "(II)I" } : Jvm.MethodName) ({ cls := "FlockHutsModel", name := "spreadWith", desc := "(II)I" } : Jvm.MethodName)) ∈ lw_all := lw_g (lw_at lw_m10 23 rfl) rfl
theorem q2260 : (Jvm.Cond.code ({ cls := "FlockHutsModel", name := "spreadWith", desc := "(II)I" } : Jvm.MethodName) prog_14_method_60_code (7 : Nat) (Option.some Jvm.ClassFile.FieldType.int)) ∈ lw_all := lw_g (lw_at lw_m10 24 rfl) rfl
theorem q2262 : (Jvm.Cond.instanceMethod ({ cls := "FlockHutsModel", name := "nearest", desc := "(II)I" } : Jvm.MethodName)) ∈ lw_all := lw_g (lw_at lw_m10 26 rfl) rfl
theorem q2263 : (Jvm.Cond.selects "FlockHutsModel" ({ cls := "FlockHutsModel", name := "nearest", desc := "(II)I" } : Jvm.MethodName) ({ cls := "FlockHutsModel", name := "nearest", desc := "(II)I" } : Jvm.MethodName)) ∈ lw_all := lw_g (lw_at lw_m10 27 rfl) rfl
theorem q2264 : (Jvm.Cond.code ({ cls := "FlockHutsModel", name := "nearest", desc := "(II)I" } : Jvm.MethodName) prog_14_method_61_code (3 : Nat) (Option.some Jvm.ClassFile.FieldType.int)) ∈ lw_all := lw_g (lw_at lw_m10 28 rfl) rfl
theorem q2266 : (Jvm.Cond.instanceMethod ({ cls := "FlockHutsModel", name := "strays", desc := "()I" } : Jvm.MethodName)) ∈ lw_all := lw_g (lw_at lw_m10 30 rfl) rfl
theorem q2267 : (Jvm.Cond.selects "FlockHutsModel" ({ cls := "FlockHutsModel", name := "strays", desc := "()I" } : Jvm.MethodName) ({ cls := "FlockHutsModel", name := "strays", desc := "()I" } : Jvm.MethodName)) ∈ lw_all := lw_g (lw_at lw_m10 31 rfl) rfl
theorem q2268 : (Jvm.Cond.code ({ cls := "FlockHutsModel", name := "strays", desc := "()I" } : Jvm.MethodName) prog_14_method_62_code (1 : Nat) (Option.some Jvm.ClassFile.FieldType.int)) ∈ lw_all := lw_g (lw_at lw_m10 32 rfl) rfl
theorem q2269 : (Jvm.Cond.methodLink "FlockHutsModel" (194 : Nat) ({ cls := "FlockHutsModel", name := "strayMany", desc := "()I" } : Jvm.MethodName)) ∈ lw_all := lw_g (lw_at lw_m10 33 rfl) rfl
theorem q2270 : (Jvm.Cond.privateMethod ({ cls := "FlockHutsModel", name := "strayMany", desc := "()I" } : Jvm.MethodName)) ∈ lw_tbl := lw_at lw_m10 34 rfl
theorem q2271 : (Jvm.Cond.instanceMethod ({ cls := "FlockHutsModel", name := "strayMany", desc := "()I" } : Jvm.MethodName)) ∈ lw_all := lw_g (lw_at lw_m10 35 rfl) rfl
theorem q2272 : (Jvm.Cond.code ({ cls := "FlockHutsModel", name := "strayMany", desc := "()I" } : Jvm.MethodName) prog_14_method_24_code (3 : Nat) (Option.some Jvm.ClassFile.FieldType.int)) ∈ lw_all := lw_g (lw_at lw_m10 36 rfl) rfl
theorem q2274 : (Jvm.Cond.instanceMethod ({ cls := "FlockHutsModel", name := "stray", desc := "(I)I" } : Jvm.MethodName)) ∈ lw_all := lw_g (lw_at lw_m10 38 rfl) rfl
theorem q2275 : (Jvm.Cond.selects "FlockHutsModel" ({ cls := "FlockHutsModel", name := "stray", desc := "(I)I" } : Jvm.MethodName) ({ cls := "FlockHutsModel", name := "stray", desc := "(I)I" } : Jvm.MethodName)) ∈ lw_all := lw_g (lw_at lw_m10 39 rfl) rfl
theorem q2276 : (Jvm.Cond.code ({ cls := "FlockHutsModel", name := "stray", desc := "(I)I" } : Jvm.MethodName) prog_14_method_63_code (4 : Nat) (Option.some Jvm.ClassFile.FieldType.int)) ∈ lw_all := lw_g (lw_at lw_m10 40 rfl) rfl
theorem q2278 : (Jvm.Cond.instanceMethod ({ cls := "FlockHutsModel", name := "dog", desc := "(II)I" } : Jvm.MethodName)) ∈ lw_all := lw_g (lw_at lw_m10 42 rfl) rfl
theorem q2279 : (Jvm.Cond.selects "FlockHutsModel" ({ cls := "FlockHutsModel", name := "dog", desc := "(II)I" } : Jvm.MethodName) ({ cls := "FlockHutsModel", name := "dog", desc := "(II)I" } : Jvm.MethodName)) ∈ lw_all := lw_g (lw_at lw_m10 43 rfl) rfl
theorem q2280 : (Jvm.Cond.code ({ cls := "FlockHutsModel", name := "dog", desc := "(II)I" } : Jvm.MethodName) prog_14_method_64_code (3 : Nat) (Option.some Jvm.ClassFile.FieldType.int)) ∈ lw_all := lw_g (lw_at lw_m10 44 rfl) rfl
theorem q2281 : (Jvm.Cond.methodLink "FlockHutsModel" (197 : Nat) ({ cls := "FlockHutsModel", name := "sends", desc := "(II)I" } : Jvm.MethodName)) ∈ lw_all := lw_g (lw_at lw_m10 45 rfl) rfl
theorem q2282 : (Jvm.Cond.privateMethod ({ cls := "FlockHutsModel", name := "sends", desc := "(II)I" } : Jvm.MethodName)) ∈ lw_tbl := lw_at lw_m10 46 rfl
theorem q2283 : (Jvm.Cond.instanceMethod ({ cls := "FlockHutsModel", name := "sends", desc := "(II)I" } : Jvm.MethodName)) ∈ lw_all := lw_g (lw_at lw_m10 47 rfl) rfl
theorem q2284 : (Jvm.Cond.code ({ cls := "FlockHutsModel", name := "sends", desc := "(II)I" } : Jvm.MethodName) prog_14_method_41_code (4 : Nat) (Option.some Jvm.ClassFile.FieldType.int)) ∈ lw_all := lw_g (lw_at lw_m10 48 rfl) rfl
theorem q2286 : (Jvm.Cond.instanceMethod ({ cls := "FlockHutsModel", name := "fetch", desc := "(I)I" } : Jvm.MethodName)) ∈ lw_all := lw_g (lw_at lw_m10 50 rfl) rfl
theorem q2287 : (Jvm.Cond.selects "FlockHutsModel" ({ cls := "FlockHutsModel", name := "fetch", desc := "(I)I" } : Jvm.MethodName) ({ cls := "FlockHutsModel", name := "fetch", desc := "(I)I" } : Jvm.MethodName)) ∈ lw_all := lw_g (lw_at lw_m10 51 rfl) rfl
theorem q2288 : (Jvm.Cond.code ({ cls := "FlockHutsModel", name := "fetch", desc := "(I)I" } : Jvm.MethodName) prog_14_method_65_code (2 : Nat) (Option.some Jvm.ClassFile.FieldType.int)) ∈ lw_all := lw_g (lw_at lw_m10 52 rfl) rfl
theorem q2289 : (Jvm.Cond.methodLink "FlockHutsModel" (200 : Nat) ({ cls := "FlockHutsModel", name := "fetches", desc := "(I)I" } : Jvm.MethodName)) ∈ lw_all := lw_g (lw_at lw_m10 53 rfl) rfl
theorem q2290 : (Jvm.Cond.privateMethod ({ cls := "FlockHutsModel", name := "fetches", desc := "(I)I" } : Jvm.MethodName)) ∈ lw_tbl := lw_at lw_m10 54 rfl
theorem q2291 : (Jvm.Cond.instanceMethod ({ cls := "FlockHutsModel", name := "fetches", desc := "(I)I" } : Jvm.MethodName)) ∈ lw_all := lw_g (lw_at lw_m10 55 rfl) rfl
theorem q2292 : (Jvm.Cond.code ({ cls := "FlockHutsModel", name := "fetches", desc := "(I)I" } : Jvm.MethodName) prog_14_method_42_code (5 : Nat) (Option.some Jvm.ClassFile.FieldType.int)) ∈ lw_all := lw_g (lw_at lw_m10 56 rfl) rfl
theorem q2294 : (Jvm.Cond.instanceMethod ({ cls := "FlockHutsModel", name := "dogAt", desc := "(I)I" } : Jvm.MethodName)) ∈ lw_all := lw_g (lw_at lw_m10 58 rfl) rfl
theorem q2295 : (Jvm.Cond.selects "FlockHutsModel" ({ cls := "FlockHutsModel", name := "dogAt", desc := "(I)I" } : Jvm.MethodName) ({ cls := "FlockHutsModel", name := "dogAt", desc := "(I)I" } : Jvm.MethodName)) ∈ lw_all := lw_g (lw_at lw_m10 59 rfl) rfl
theorem q2296 : (Jvm.Cond.code ({ cls := "FlockHutsModel", name := "dogAt", desc := "(I)I" } : Jvm.MethodName) prog_14_method_66_code (2 : Nat) (Option.some Jvm.ClassFile.FieldType.int)) ∈ lw_all := lw_g (lw_at lw_m10 60 rfl) rfl
theorem q2298 : (Jvm.Cond.instanceMethod ({ cls := "FlockHutsModel", name := "apart", desc := "(II)I" } : Jvm.MethodName)) ∈ lw_all := lw_g (lw_at lw_m10 62 rfl) rfl
theorem q2299 : (Jvm.Cond.selects "FlockHutsModel" ({ cls := "FlockHutsModel", name := "apart", desc := "(II)I" } : Jvm.MethodName) ({ cls := "FlockHutsModel", name := "apart", desc := "(II)I" } : Jvm.MethodName)) ∈ lw_all := lw_g (lw_at lw_m10 63 rfl) rfl
theorem q2300 : (Jvm.Cond.code ({ cls := "FlockHutsModel", name := "apart", desc := "(II)I" } : Jvm.MethodName) prog_14_method_67_code (3 : Nat) (Option.some Jvm.ClassFile.FieldType.int)) ∈ lw_all := lw_g (lw_at lw_m10 64 rfl) rfl
theorem q2302 : (Jvm.Cond.instanceMethod ({ cls := "FlockHutsModel", name := "ranked", desc := "(I)I" } : Jvm.MethodName)) ∈ lw_all := lw_g (lw_at lw_m10 66 rfl) rfl
theorem q2303 : (Jvm.Cond.selects "FlockHutsModel" ({ cls := "FlockHutsModel", name := "ranked", desc := "(I)I" } : Jvm.MethodName) ({ cls := "FlockHutsModel", name := "ranked", desc := "(I)I" } : Jvm.MethodName)) ∈ lw_all := lw_g (lw_at lw_m10 67 rfl) rfl
theorem q2304 : (Jvm.Cond.code ({ cls := "FlockHutsModel", name := "ranked", desc := "(I)I" } : Jvm.MethodName) prog_14_method_69_code (5 : Nat) (Option.some Jvm.ClassFile.FieldType.int)) ∈ lw_all := lw_g (lw_at lw_m10 68 rfl) rfl
theorem q2305 : (Jvm.Cond.methodLink "FlockHutsModel" (203 : Nat) ({ cls := "FlockHutsModel", name := "isAhead", desc := "(II)Z" } : Jvm.MethodName)) ∈ lw_all := lw_g (lw_at lw_m10 69 rfl) rfl
theorem q2306 : (Jvm.Cond.privateMethod ({ cls := "FlockHutsModel", name := "isAhead", desc := "(II)Z" } : Jvm.MethodName)) ∈ lw_tbl := lw_at lw_m10 70 rfl
theorem q2307 : (Jvm.Cond.instanceMethod ({ cls := "FlockHutsModel", name := "isAhead", desc := "(II)Z" } : Jvm.MethodName)) ∈ lw_all := lw_g (lw_at lw_m10 71 rfl) rfl
theorem q2308 : (Jvm.Cond.code ({ cls := "FlockHutsModel", name := "isAhead", desc := "(II)Z" } : Jvm.MethodName) prog_14_method_68_code (3 : Nat) (Option.some Jvm.ClassFile.FieldType.boolean)) ∈ lw_all := lw_g (lw_at lw_m10 72 rfl) rfl
theorem q2310 : (Jvm.Cond.instanceMethod ({ cls := "FlockHutsModel", name := "isRight", desc := "()Z" } : Jvm.MethodName)) ∈ lw_all := lw_g (lw_at lw_m10 74 rfl) rfl
theorem q2311 : (Jvm.Cond.selects "FlockHutsModel" ({ cls := "FlockHutsModel", name := "isRight", desc := "()Z" } : Jvm.MethodName) ({ cls := "FlockHutsModel", name := "isRight", desc := "()Z" } : Jvm.MethodName)) ∈ lw_all := lw_g (lw_at lw_m10 75 rfl) rfl
theorem q2312 : (Jvm.Cond.code ({ cls := "FlockHutsModel", name := "isRight", desc := "()Z" } : Jvm.MethodName) prog_14_method_70_code (1 : Nat) (Option.some Jvm.ClassFile.FieldType.boolean)) ∈ lw_all := lw_g (lw_at lw_m10 76 rfl) rfl
theorem q2314 : (Jvm.Cond.instanceMethod ({ cls := "FlockHutsModel", name := "hutLine", desc := "(I)I" } : Jvm.MethodName)) ∈ lw_all := lw_g (lw_at lw_m10 78 rfl) rfl
theorem q2315 : (Jvm.Cond.selects "FlockHutsModel" ({ cls := "FlockHutsModel", name := "hutLine", desc := "(I)I" } : Jvm.MethodName) ({ cls := "FlockHutsModel", name := "hutLine", desc := "(I)I" } : Jvm.MethodName)) ∈ lw_all := lw_g (lw_at lw_m10 79 rfl) rfl
theorem q2316 : (Jvm.Cond.code ({ cls := "FlockHutsModel", name := "hutLine", desc := "(I)I" } : Jvm.MethodName) prog_14_method_73_code (4 : Nat) (Option.some Jvm.ClassFile.FieldType.int)) ∈ lw_all := lw_g (lw_at lw_m10 80 rfl) rfl
theorem q2317 : (Jvm.Cond.methodLink "FlockHutsModel" (209 : Nat) ({ cls := "FlockHutsModel", name := "writes", desc := "(I)V" } : Jvm.MethodName)) ∈ lw_all := lw_g (lw_at lw_m10 81 rfl) rfl
theorem q2318 : (Jvm.Cond.privateMethod ({ cls := "FlockHutsModel", name := "writes", desc := "(I)V" } : Jvm.MethodName)) ∈ lw_tbl := lw_at lw_m10 82 rfl
theorem q2319 : (Jvm.Cond.instanceMethod ({ cls := "FlockHutsModel", name := "writes", desc := "(I)V" } : Jvm.MethodName)) ∈ lw_all := lw_g (lw_at lw_m10 83 rfl) rfl
theorem q2320 : (Jvm.Cond.code ({ cls := "FlockHutsModel", name := "writes", desc := "(I)V" } : Jvm.MethodName) prog_14_method_71_code (2 : Nat) (Option.none : Option Jvm.ClassFile.FieldType)) ∈ lw_all := lw_g (lw_at lw_m10 84 rfl) rfl
theorem q2321 : (Jvm.Cond.methodLink "FlockHutsModel" (213 : Nat) ({ cls := "FlockHutsModel", name := "writesNumber", desc := "(I)V" } : Jvm.MethodName)) ∈ lw_all := lw_g (lw_at lw_m10 85 rfl) rfl
theorem q2322 : (Jvm.Cond.privateMethod ({ cls := "FlockHutsModel", name := "writesNumber", desc := "(I)V" } : Jvm.MethodName)) ∈ lw_tbl := lw_at lw_m10 86 rfl
theorem q2323 : (Jvm.Cond.instanceMethod ({ cls := "FlockHutsModel", name := "writesNumber", desc := "(I)V" } : Jvm.MethodName)) ∈ lw_all := lw_g (lw_at lw_m10 87 rfl) rfl
theorem q2324 : (Jvm.Cond.code ({ cls := "FlockHutsModel", name := "writesNumber", desc := "(I)V" } : Jvm.MethodName) prog_14_method_72_code (2 : Nat) (Option.none : Option Jvm.ClassFile.FieldType)) ∈ lw_all := lw_g (lw_at lw_m10 88 rfl) rfl
theorem q2326 : (Jvm.Cond.instanceMethod ({ cls := "FlockHutsModel", name := "line", desc := "()I" } : Jvm.MethodName)) ∈ lw_all := lw_g (lw_at lw_m10 90 rfl) rfl
theorem q2327 : (Jvm.Cond.selects "FlockHutsModel" ({ cls := "FlockHutsModel", name := "line", desc := "()I" } : Jvm.MethodName) ({ cls := "FlockHutsModel", name := "line", desc := "()I" } : Jvm.MethodName)) ∈ lw_all := lw_g (lw_at lw_m10 91 rfl) rfl
theorem q2328 : (Jvm.Cond.code ({ cls := "FlockHutsModel", name := "line", desc := "()I" } : Jvm.MethodName) prog_14_method_74_code (2 : Nat) (Option.some Jvm.ClassFile.FieldType.int)) ∈ lw_all := lw_g (lw_at lw_m10 92 rfl) rfl
theorem q2330 : (Jvm.Cond.instanceMethod ({ cls := "FlockHutsModel", name := "character", desc := "(I)C" } : Jvm.MethodName)) ∈ lw_all := lw_g (lw_at lw_m10 94 rfl) rfl
theorem q2331 : (Jvm.Cond.selects "FlockHutsModel" ({ cls := "FlockHutsModel", name := "character", desc := "(I)C" } : Jvm.MethodName) ({ cls := "FlockHutsModel", name := "character", desc := "(I)C" } : Jvm.MethodName)) ∈ lw_all := lw_g (lw_at lw_m10 95 rfl) rfl
theorem q2332 : (Jvm.Cond.code ({ cls := "FlockHutsModel", name := "character", desc := "(I)C" } : Jvm.MethodName) prog_14_method_75_code (2 : Nat) (Option.some Jvm.ClassFile.FieldType.char)) ∈ lw_all := lw_g (lw_at lw_m10 96 rfl) rfl
theorem q2334 : (Jvm.Cond.instanceMethod ({ cls := "FlockHutsModel", name := "refusal", desc := "(Z)I" } : Jvm.MethodName)) ∈ lw_all := lw_g (lw_at lw_m10 98 rfl) rfl
theorem q2335 : (Jvm.Cond.selects "FlockHutsModel" ({ cls := "FlockHutsModel", name := "refusal", desc := "(Z)I" } : Jvm.MethodName) ({ cls := "FlockHutsModel", name := "refusal", desc := "(Z)I" } : Jvm.MethodName)) ∈ lw_all := lw_g (lw_at lw_m10 99 rfl) rfl
theorem q2336 : (Jvm.Cond.code ({ cls := "FlockHutsModel", name := "refusal", desc := "(Z)I" } : Jvm.MethodName) prog_14_method_76_code (2 : Nat) (Option.some Jvm.ClassFile.FieldType.int)) ∈ lw_all := lw_g (lw_at lw_m10 100 rfl) rfl
theorem q2338 : (Jvm.Cond.instanceMethod ({ cls := "FlockHutsModel", name := "account", desc := "(I)I" } : Jvm.MethodName)) ∈ lw_all := lw_g (lw_at lw_m10 102 rfl) rfl
theorem q2339 : (Jvm.Cond.selects "FlockHutsModel" ({ cls := "FlockHutsModel", name := "account", desc := "(I)I" } : Jvm.MethodName) ({ cls := "FlockHutsModel", name := "account", desc := "(I)I" } : Jvm.MethodName)) ∈ lw_all := lw_g (lw_at lw_m10 103 rfl) rfl
theorem q2340 : (Jvm.Cond.code ({ cls := "FlockHutsModel", name := "account", desc := "(I)I" } : Jvm.MethodName) prog_14_method_79_code (2 : Nat) (Option.some Jvm.ClassFile.FieldType.int)) ∈ lw_all := lw_g (lw_at lw_m10 104 rfl) rfl
theorem q2341 : (Jvm.Cond.methodLink "FlockHutsModel" (216 : Nat) ({ cls := "FlockHutsModel", name := "allWeights", desc := "()I" } : Jvm.MethodName)) ∈ lw_all := lw_g (lw_at lw_m10 105 rfl) rfl
theorem q2342 : (Jvm.Cond.privateMethod ({ cls := "FlockHutsModel", name := "allWeights", desc := "()I" } : Jvm.MethodName)) ∈ lw_tbl := lw_at lw_m10 106 rfl
theorem q2343 : (Jvm.Cond.instanceMethod ({ cls := "FlockHutsModel", name := "allWeights", desc := "()I" } : Jvm.MethodName)) ∈ lw_all := lw_g (lw_at lw_m10 107 rfl) rfl
theorem q2344 : (Jvm.Cond.code ({ cls := "FlockHutsModel", name := "allWeights", desc := "()I" } : Jvm.MethodName) prog_14_method_77_code (3 : Nat) (Option.some Jvm.ClassFile.FieldType.int)) ∈ lw_all := lw_g (lw_at lw_m10 108 rfl) rfl
theorem q2345 : (Jvm.Cond.methodLink "FlockHutsModel" (219 : Nat) ({ cls := "FlockHutsModel", name := "emptyHuts", desc := "()I" } : Jvm.MethodName)) ∈ lw_all := lw_g (lw_at lw_m10 109 rfl) rfl
theorem q2346 : (Jvm.Cond.privateMethod ({ cls := "FlockHutsModel", name := "emptyHuts", desc := "()I" } : Jvm.MethodName)) ∈ lw_tbl := lw_at lw_m10 110 rfl
theorem q2347 : (Jvm.Cond.instanceMethod ({ cls := "FlockHutsModel", name := "emptyHuts", desc := "()I" } : Jvm.MethodName)) ∈ lw_all := lw_g (lw_at lw_m10 111 rfl) rfl
theorem q2348 : (Jvm.Cond.code ({ cls := "FlockHutsModel", name := "emptyHuts", desc := "()I" } : Jvm.MethodName) prog_14_method_78_code (3 : Nat) (Option.some Jvm.ClassFile.FieldType.int)) ∈ lw_all := lw_g (lw_at lw_m10 112 rfl) rfl
theorem q2350 : (Jvm.Cond.instanceMethod ({ cls := "FlockHutsModel", name := "meanDistance", desc := "()D" } : Jvm.MethodName)) ∈ lw_all := lw_g (lw_at lw_m10 114 rfl) rfl
theorem q2351 : (Jvm.Cond.selects "FlockHutsModel" ({ cls := "FlockHutsModel", name := "meanDistance", desc := "()D" } : Jvm.MethodName) ({ cls := "FlockHutsModel", name := "meanDistance", desc := "()D" } : Jvm.MethodName)) ∈ lw_all := lw_g (lw_at lw_m10 115 rfl) rfl
theorem q2352 : (Jvm.Cond.code ({ cls := "FlockHutsModel", name := "meanDistance", desc := "()D" } : Jvm.MethodName) prog_14_method_80_code (4 : Nat) (Option.some Jvm.ClassFile.FieldType.double)) ∈ lw_all := lw_g (lw_at lw_m10 116 rfl) rfl
theorem q2354 : (Jvm.Cond.instanceMethod ({ cls := "FlockHutsModel", name := "strayShare", desc := "()F" } : Jvm.MethodName)) ∈ lw_all := lw_g (lw_at lw_m10 118 rfl) rfl
theorem q2355 : (Jvm.Cond.selects "FlockHutsModel" ({ cls := "FlockHutsModel", name := "strayShare", desc := "()F" } : Jvm.MethodName) ({ cls := "FlockHutsModel", name := "strayShare", desc := "()F" } : Jvm.MethodName)) ∈ lw_all := lw_g (lw_at lw_m10 119 rfl) rfl
theorem q2356 : (Jvm.Cond.code ({ cls := "FlockHutsModel", name := "strayShare", desc := "()F" } : Jvm.MethodName) prog_14_method_81_code (1 : Nat) (Option.some Jvm.ClassFile.FieldType.float)) ∈ lw_all := lw_g (lw_at lw_m10 120 rfl) rfl
theorem q2358 : (Jvm.Cond.instanceMethod ({ cls := "FlockHutsModel", name := "append", desc := "(I)I" } : Jvm.MethodName)) ∈ lw_all := lw_g (lw_at lw_m10 122 rfl) rfl
theorem q2359 : (Jvm.Cond.selects "FlockHutsModel" ({ cls := "FlockHutsModel", name := "append", desc := "(I)I" } : Jvm.MethodName) ({ cls := "FlockHutsModel", name := "append", desc := "(I)I" } : Jvm.MethodName)) ∈ lw_all := lw_g (lw_at lw_m10 123 rfl) rfl
theorem q2360 : (Jvm.Cond.code ({ cls := "FlockHutsModel", name := "append", desc := "(I)I" } : Jvm.MethodName) prog_14_method_82_code (5 : Nat) (Option.some Jvm.ClassFile.FieldType.int)) ∈ lw_all := lw_g (lw_at lw_m10 124 rfl) rfl
theorem q2362 : (Jvm.Cond.instanceMethod ({ cls := "FlockHutsModel", name := "read", desc := "()I" } : Jvm.MethodName)) ∈ lw_all := lw_g (lw_at lw_m10 126 rfl) rfl
theorem q2363 : (Jvm.Cond.selects "FlockHutsModel" ({ cls := "FlockHutsModel", name := "read", desc := "()I" } : Jvm.MethodName) ({ cls := "FlockHutsModel", name := "read", desc := "()I" } : Jvm.MethodName)) ∈ lw_all := lw_g (lw_at lw_m10 127 rfl) rfl
theorem q2364 : (Jvm.Cond.code ({ cls := "FlockHutsModel", name := "read", desc := "()I" } : Jvm.MethodName) prog_14_method_89_code (4 : Nat) (Option.some Jvm.ClassFile.FieldType.int)) ∈ lw_all := lw_g (lw_at lw_m10 128 rfl) rfl
theorem q2365 : (Jvm.Cond.methodLink "FlockHutsModel" (277 : Nat) ({ cls := "FlockHutsModel", name := "readsOne", desc := "()V" } : Jvm.MethodName)) ∈ lw_all := lw_g (lw_at lw_m10 129 rfl) rfl
theorem q2366 : (Jvm.Cond.privateMethod ({ cls := "FlockHutsModel", name := "readsOne", desc := "()V" } : Jvm.MethodName)) ∈ lw_tbl := lw_at lw_m10 130 rfl
theorem q2367 : (Jvm.Cond.instanceMethod ({ cls := "FlockHutsModel", name := "readsOne", desc := "()V" } : Jvm.MethodName)) ∈ lw_all := lw_g (lw_at lw_m10 131 rfl) rfl
theorem q2368 : (Jvm.Cond.code ({ cls := "FlockHutsModel", name := "readsOne", desc := "()V" } : Jvm.MethodName) prog_14_method_87_code (2 : Nat) (Option.none : Option Jvm.ClassFile.FieldType)) ∈ lw_all := lw_g (lw_at lw_m10 132 rfl) rfl
theorem q2369 : (Jvm.Cond.methodLink "FlockHutsModel" (239 : Nat) ({ cls := "FlockHutsModel", name := "here", desc := "(I)I" } : Jvm.MethodName)) ∈ lw_all := lw_g (lw_at lw_m10 133 rfl) rfl
theorem q2370 : (Jvm.Cond.privateMethod ({ cls := "FlockHutsModel", name := "here", desc := "(I)I" } : Jvm.MethodName)) ∈ lw_tbl := lw_at lw_m10 134 rfl
theorem q2371 : (Jvm.Cond.instanceMethod ({ cls := "FlockHutsModel", name := "here", desc := "(I)I" } : Jvm.MethodName)) ∈ lw_all := lw_g (lw_at lw_m10 135 rfl) rfl
theorem q2372 : (Jvm.Cond.code ({ cls := "FlockHutsModel", name := "here", desc := "(I)I" } : Jvm.MethodName) prog_14_method_83_code (2 : Nat) (Option.some Jvm.ClassFile.FieldType.int)) ∈ lw_all := lw_g (lw_at lw_m10 136 rfl) rfl
theorem q2373 : (Jvm.Cond.methodLink "FlockHutsModel" (262 : Nat) ({ cls := "FlockHutsModel", name := "readsS", desc := "()V" } : Jvm.MethodName)) ∈ lw_all := lw_g (lw_at lw_m10 137 rfl) rfl
theorem q2374 : (Jvm.Cond.privateMethod ({ cls := "FlockHutsModel", name := "readsS", desc := "()V" } : Jvm.MethodName)) ∈ lw_tbl := lw_at lw_m10 138 rfl
theorem q2375 : (Jvm.Cond.instanceMethod ({ cls := "FlockHutsModel", name := "readsS", desc := "()V" } : Jvm.MethodName)) ∈ lw_all := lw_g (lw_at lw_m10 139 rfl) rfl
theorem q2376 : (Jvm.Cond.code ({ cls := "FlockHutsModel", name := "readsS", desc := "()V" } : Jvm.MethodName) prog_14_method_86_code (2 : Nat) (Option.none : Option Jvm.ClassFile.FieldType)) ∈ lw_all := lw_g (lw_at lw_m10 140 rfl) rfl
theorem q2377 : (Jvm.Cond.stringRef "FlockHutsModel" (252 : Nat) "strike") ∈ lw_tbl := lw_at lw_m10 141 rfl
theorem q2378 : (Jvm.Cond.methodLink "FlockHutsModel" (254 : Nat) ({ cls := "FlockHutsModel", name := "says", desc := "(Ljava/lang/String;I)V" } : Jvm.MethodName)) ∈ lw_all := lw_g (lw_at lw_m10 142 rfl) rfl
theorem q2379 : (Jvm.Cond.privateMethod ({ cls := "FlockHutsModel", name := "says", desc := "(Ljava/lang/String;I)V" } : Jvm.MethodName)) ∈ lw_tbl := lw_at lw_m10 143 rfl
theorem q2380 : (Jvm.Cond.instanceMethod ({ cls := "FlockHutsModel", name := "says", desc := "(Ljava/lang/String;I)V" } : Jvm.MethodName)) ∈ lw_all := lw_g (lw_at lw_m10 144 rfl) rfl
theorem q2381 : (Jvm.Cond.code ({ cls := "FlockHutsModel", name := "says", desc := "(Ljava/lang/String;I)V" } : Jvm.MethodName) prog_14_method_84_code (4 : Nat) (Option.none : Option Jvm.ClassFile.FieldType)) ∈ lw_all := lw_g (lw_at lw_m10 145 rfl) rfl
theorem q2382 : (Jvm.Cond.methodLink "FlockHutsModel" (231 : Nat) ({ cls := "java/lang/String", name := "length", desc := "()I" } : Jvm.MethodName)) ∈ lw_all := lw_g (lw_at lw_m10 146 rfl) rfl
theorem q2383 : (Jvm.Cond.methodLink "FlockHutsModel" (242 : Nat) ({ cls := "java/lang/String", name := "charAt", desc := "(I)C" } : Jvm.MethodName)) ∈ lw_all := lw_g (lw_at lw_m10 147 rfl) rfl
theorem q2384 : (Jvm.Cond.methodLink "FlockHutsModel" (246 : Nat) ({ cls := "FlockHutsModel", name := "number", desc := "(I)V" } : Jvm.MethodName)) ∈ lw_all := lw_g (lw_at lw_m10 148 rfl) rfl
theorem q2385 : (Jvm.Cond.privateMethod ({ cls := "FlockHutsModel", name := "number", desc := "(I)V" } : Jvm.MethodName)) ∈ lw_tbl := lw_at lw_m10 149 rfl
theorem q2386 : (Jvm.Cond.instanceMethod ({ cls := "FlockHutsModel", name := "number", desc := "(I)V" } : Jvm.MethodName)) ∈ lw_all := lw_g (lw_at lw_m10 150 rfl) rfl
theorem q2387 : (Jvm.Cond.code ({ cls := "FlockHutsModel", name := "number", desc := "(I)V" } : Jvm.MethodName) prog_14_method_85_code (3 : Nat) (Option.none : Option Jvm.ClassFile.FieldType)) ∈ lw_all := lw_g (lw_at lw_m10 151 rfl) rfl
theorem q2388 : (Jvm.Cond.stringRef "FlockHutsModel" (258 : Nat) "settle") ∈ lw_tbl := lw_at lw_m10 152 rfl
theorem q2389 : (Jvm.Cond.stringRef "FlockHutsModel" (260 : Nat) "sheep") ∈ lw_tbl := lw_at lw_m10 153 rfl
theorem q2390 : (Jvm.Cond.stringRef "FlockHutsModel" (265 : Nat) "hut") ∈ lw_tbl := lw_at lw_m10 154 rfl
theorem q2391 : (Jvm.Cond.stringRef "FlockHutsModel" (267 : Nat) "leave") ∈ lw_tbl := lw_at lw_m10 155 rfl
theorem q2392 : (Jvm.Cond.stringRef "FlockHutsModel" (269 : Nat) "move") ∈ lw_tbl := lw_at lw_m10 156 rfl
theorem q2393 : (Jvm.Cond.stringRef "FlockHutsModel" (271 : Nat) "round") ∈ lw_tbl := lw_at lw_m10 157 rfl
theorem q2394 : (Jvm.Cond.stringRef "FlockHutsModel" (273 : Nat) "dog") ∈ lw_tbl := lw_at lw_m10 158 rfl
theorem q2395 : (Jvm.Cond.stringRef "FlockHutsModel" (275 : Nat) "fetch") ∈ lw_tbl := lw_at lw_m10 159 rfl
theorem q2396 : (Jvm.Cond.methodLink "FlockHutsModel" (280 : Nat) ({ cls := "FlockHutsModel", name := "does", desc := "(I)I" } : Jvm.MethodName)) ∈ lw_all := lw_g (lw_at lw_m10 160 rfl) rfl
theorem q2397 : (Jvm.Cond.privateMethod ({ cls := "FlockHutsModel", name := "does", desc := "(I)I" } : Jvm.MethodName)) ∈ lw_tbl := lw_at lw_m10 161 rfl
theorem q2398 : (Jvm.Cond.instanceMethod ({ cls := "FlockHutsModel", name := "does", desc := "(I)I" } : Jvm.MethodName)) ∈ lw_all := lw_g (lw_at lw_m10 162 rfl) rfl
theorem q2399 : (Jvm.Cond.code ({ cls := "FlockHutsModel", name := "does", desc := "(I)I" } : Jvm.MethodName) prog_14_method_88_code (5 : Nat) (Option.some Jvm.ClassFile.FieldType.int)) ∈ lw_all := lw_g (lw_at lw_m10 163 rfl) rfl
theorem q2401 : (Jvm.Cond.instanceMethod ({ cls := "FlockHutsModel", name := "errorPosition", desc := "()I" } : Jvm.MethodName)) ∈ lw_all := lw_g (lw_at lw_m10 165 rfl) rfl
theorem q2402 : (Jvm.Cond.selects "FlockHutsModel" ({ cls := "FlockHutsModel", name := "errorPosition", desc := "()I" } : Jvm.MethodName) ({ cls := "FlockHutsModel", name := "errorPosition", desc := "()I" } : Jvm.MethodName)) ∈ lw_all := lw_g (lw_at lw_m10 166 rfl) rfl
theorem q2403 : (Jvm.Cond.code ({ cls := "FlockHutsModel", name := "errorPosition", desc := "()I" } : Jvm.MethodName) prog_14_method_90_code (1 : Nat) (Option.some Jvm.ClassFile.FieldType.int)) ∈ lw_all := lw_g (lw_at lw_m10 167 rfl) rfl
theorem q2405 : (Jvm.Cond.instanceMethod ({ cls := "FlockHutsModel", name := "refusedItem", desc := "()I" } : Jvm.MethodName)) ∈ lw_all := lw_g (lw_at lw_m10 169 rfl) rfl
theorem q2406 : (Jvm.Cond.selects "FlockHutsModel" ({ cls := "FlockHutsModel", name := "refusedItem", desc := "()I" } : Jvm.MethodName) ({ cls := "FlockHutsModel", name := "refusedItem", desc := "()I" } : Jvm.MethodName)) ∈ lw_all := lw_g (lw_at lw_m10 170 rfl) rfl
theorem q2407 : (Jvm.Cond.code ({ cls := "FlockHutsModel", name := "refusedItem", desc := "()I" } : Jvm.MethodName) prog_14_method_91_code (1 : Nat) (Option.some Jvm.ClassFile.FieldType.int)) ∈ lw_all := lw_g (lw_at lw_m10 171 rfl) rfl
theorem q2409 : (Jvm.Cond.instanceMethod ({ cls := "FlockHutsModel", name := "undo", desc := "()I" } : Jvm.MethodName)) ∈ lw_all := lw_g (lw_at lw_m10 173 rfl) rfl
theorem q2410 : (Jvm.Cond.selects "FlockHutsModel" ({ cls := "FlockHutsModel", name := "undo", desc := "()I" } : Jvm.MethodName) ({ cls := "FlockHutsModel", name := "undo", desc := "()I" } : Jvm.MethodName)) ∈ lw_all := lw_g (lw_at lw_m10 174 rfl) rfl
theorem q2411 : (Jvm.Cond.code ({ cls := "FlockHutsModel", name := "undo", desc := "()I" } : Jvm.MethodName) prog_14_method_92_code (2 : Nat) (Option.some Jvm.ClassFile.FieldType.int)) ∈ lw_all := lw_g (lw_at lw_m10 175 rfl) rfl
theorem q2413 : (Jvm.Cond.instanceMethod ({ cls := "FlockHutsModel", name := "snapshot", desc := "()I" } : Jvm.MethodName)) ∈ lw_all := lw_g (lw_at lw_m10 177 rfl) rfl
theorem q2414 : (Jvm.Cond.selects "FlockHutsModel" ({ cls := "FlockHutsModel", name := "snapshot", desc := "()I" } : Jvm.MethodName) ({ cls := "FlockHutsModel", name := "snapshot", desc := "()I" } : Jvm.MethodName)) ∈ lw_all := lw_g (lw_at lw_m10 178 rfl) rfl
theorem q2415 : (Jvm.Cond.code ({ cls := "FlockHutsModel", name := "snapshot", desc := "()I" } : Jvm.MethodName) prog_14_method_93_code (2 : Nat) (Option.some Jvm.ClassFile.FieldType.int)) ∈ lw_all := lw_g (lw_at lw_m10 179 rfl) rfl
theorem q2417 : (Jvm.Cond.instanceMethod ({ cls := "FlockHutsModel", name := "restore", desc := "()I" } : Jvm.MethodName)) ∈ lw_all := lw_g (lw_at lw_m10 181 rfl) rfl
theorem q2418 : (Jvm.Cond.selects "FlockHutsModel" ({ cls := "FlockHutsModel", name := "restore", desc := "()I" } : Jvm.MethodName) ({ cls := "FlockHutsModel", name := "restore", desc := "()I" } : Jvm.MethodName)) ∈ lw_all := lw_g (lw_at lw_m10 182 rfl) rfl
theorem q2419 : (Jvm.Cond.code ({ cls := "FlockHutsModel", name := "restore", desc := "()I" } : Jvm.MethodName) prog_14_method_94_code (2 : Nat) (Option.some Jvm.ClassFile.FieldType.int)) ∈ lw_all := lw_g (lw_at lw_m10 183 rfl) rfl
theorem q2442 : (Jvm.Cond.castable "FlockHutsModel" "java/lang/Object") ∈ lw_tbl := lw_at lw_m10 206 rfl
theorem in_X3 : ∀ w ∈ wsX30, w ∈ lw_all := lw_in wsX30 [1991, 1993, 1995, 1997, 1999, 2001, 2003, 2005, 2007, 2009, 2011, 2013, 2015, 2017, 2019, 2021, 2023, 2025, 2027, 2029, 2031, 2033, 2035, 2037, 2039, 2041] (by decide +kernel) (by decide +kernel)

