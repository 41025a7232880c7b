/-! FlockHuts -/
set_option maxRecDepth 100000
def RX1 : String := "FlockHuts"
def TX1 : u_T := fun k => match k with
  | 0 => ("FlockHuts", "field", "LFlockHuts$Field;", false)
  | 1 => ("FlockHuts", "undoSteps", "Ljava/util/ArrayDeque;", true)
  | 2 => ("FlockHuts", "saved", "LFlockHuts$Field;", false)
  | 3 => ("FlockHuts", "input", "Ljava/lang/StringBuilder;", false)
  | 4 => ("FlockHuts", "line", "Ljava/lang/String;", false)
  | 5 => ("FlockHuts", "lastError", "LFlockHuts$SyntaxException;", false)
  | 6 => ("FlockHuts", "lastItem", "I", false)
  | _ => ("FlockHuts", "lastRefusal", "LFlockHuts$Refused;", false)
def tyX1 : Nat → FieldType := fun k => match k with
  | 0 => .object "FlockHuts$Field"
  | 1 => .object "java/util/ArrayDeque"
  | 2 => .object "FlockHuts$Field"
  | 3 => .object "java/lang/StringBuilder"
  | 4 => .object "java/lang/String"
  | 5 => .object "FlockHuts$SyntaxException"
  | 6 => .int
  | _ => .object "FlockHuts$Refused"
abbrev wsX10 : List Cond := u_ws RX1 TX1 8
theorem nmX1 : ∀ a, a < 8 → ∀ b, b < 8 → a ≠ b → (TX1 a).2.1 ≠ (TX1 b).2.1 := by decide +kernel
theorem tyX1_ok : ∀ k, k < 8 → parseFieldDescriptor (TX1 k).2.2.1 = some (tyX1 k) := by decide +kernel
abbrev cX1_init : ByteArray := prog_1_method_8_code
def yX1_init : MethodName := ⟨RX1, "<init>", "()V"⟩
def dkwX1_init_2 : List UInt8 := [181, 0, 61, 177]
abbrev dktX1_init_2 : List UInt8 := dkwX1_init_2 ++ []
def dkwX1_init_1 : List UInt8 := [181, 0, 44, 42, 187, 0, 48, 89, 183, 0, 50, 181, 0, 51, 42, 18, 55, 181, 0, 57, 42, 2]
abbrev dktX1_init_1 : List UInt8 := dkwX1_init_1 ++ dktX1_init_2
def dkwX1_init_0 : List UInt8 := [42, 183, 0, 31, 42, 187, 0, 34, 89, 183, 0, 36, 181, 0, 37, 42, 187, 0, 41, 89, 183, 0, 43]
abbrev dktX1_init_0 : List UInt8 := dkwX1_init_0 ++ dktX1_init_1
theorem dksX1_init_0 : cX1_init.data.toList.drop 0 = dktX1_init_0 := by decide +kernel
theorem dksX1_init_1 : cX1_init.data.toList.drop 23 = dktX1_init_1 := dk_seg dksX1_init_0 23 rfl rfl
theorem dksX1_init_2 : cX1_init.data.toList.drop 45 = dktX1_init_2 := dk_seg dksX1_init_1 22 rfl rfl
theorem dX1_init_0 : decode cX1_init 0 = .ok (.aload_n 0, 1) := dk_42 (dk_at dksX1_init_0 0 rfl rfl)
theorem dX1_init_1 : decode cX1_init 1 = .ok (.invokespecial 31, 3) := dk_183 0 31 (dk_at dksX1_init_0 1 rfl rfl)
theorem dX1_init_4 : decode cX1_init 4 = .ok (.aload_n 0, 1) := dk_42 (dk_at dksX1_init_0 4 rfl rfl)
theorem dX1_init_5 : decode cX1_init 5 = .ok (.new 34, 3) := dk_187 0 34 (dk_at dksX1_init_0 5 rfl rfl)
theorem dX1_init_8 : decode cX1_init 8 = .ok (.dup, 1) := dk_89 (dk_at dksX1_init_0 8 rfl rfl)
theorem dX1_init_9 : decode cX1_init 9 = .ok (.invokespecial 36, 3) := dk_183 0 36 (dk_at dksX1_init_0 9 rfl rfl)
theorem dX1_init_12 : decode cX1_init 12 = .ok (.putfield 37, 3) := dk_181 0 37 (dk_at dksX1_init_0 12 rfl rfl)
theorem dX1_init_15 : decode cX1_init 15 = .ok (.aload_n 0, 1) := dk_42 (dk_at dksX1_init_0 15 rfl rfl)
theorem dX1_init_16 : decode cX1_init 16 = .ok (.new 41, 3) := dk_187 0 41 (dk_at dksX1_init_0 16 rfl rfl)
theorem dX1_init_19 : decode cX1_init 19 = .ok (.dup, 1) := dk_89 (dk_at dksX1_init_0 19 rfl rfl)
theorem dX1_init_20 : decode cX1_init 20 = .ok (.invokespecial 43, 3) := dk_183 0 43 (dk_at dksX1_init_0 20 rfl rfl)
theorem dX1_init_23 : decode cX1_init 23 = .ok (.putfield 44, 3) := dk_181 0 44 (dk_at dksX1_init_1 0 rfl rfl)
theorem dX1_init_26 : decode cX1_init 26 = .ok (.aload_n 0, 1) := dk_42 (dk_at dksX1_init_1 3 rfl rfl)
theorem dX1_init_27 : decode cX1_init 27 = .ok (.new 48, 3) := dk_187 0 48 (dk_at dksX1_init_1 4 rfl rfl)
theorem dX1_init_30 : decode cX1_init 30 = .ok (.dup, 1) := dk_89 (dk_at dksX1_init_1 7 rfl rfl)
theorem dX1_init_31 : decode cX1_init 31 = .ok (.invokespecial 50, 3) := dk_183 0 50 (dk_at dksX1_init_1 8 rfl rfl)
theorem dX1_init_34 : decode cX1_init 34 = .ok (.putfield 51, 3) := dk_181 0 51 (dk_at dksX1_init_1 11 rfl rfl)
theorem dX1_init_37 : decode cX1_init 37 = .ok (.aload_n 0, 1) := dk_42 (dk_at dksX1_init_1 14 rfl rfl)
theorem dX1_init_38 : decode cX1_init 38 = .ok (.ldc 55, 2) := dk_18 55 (dk_at dksX1_init_1 15 rfl rfl)
theorem dX1_init_40 : decode cX1_init 40 = .ok (.putfield 57, 3) := dk_181 0 57 (dk_at dksX1_init_1 17 rfl rfl)
theorem dX1_init_43 : decode cX1_init 43 = .ok (.aload_n 0, 1) := dk_42 (dk_at dksX1_init_1 20 rfl rfl)
theorem dX1_init_44 : decode cX1_init 44 = .ok (.iconst (-1), 1) := dk_2 (dk_at dksX1_init_1 21 rfl rfl)
theorem dX1_init_45 : decode cX1_init 45 = .ok (.putfield 61, 3) := dk_181 0 61 (dk_at dksX1_init_2 0 rfl rfl)
theorem dX1_init_48 : decode cX1_init 48 = .ok (.return_, 1) := dk_177 (dk_at dksX1_init_2 3 rfl rfl)
abbrev cX1_clear : ByteArray := prog_1_method_11_code
def yX1_clear : MethodName := ⟨RX1, "clear", "()I"⟩
def dkwX1_clear_1 : List UInt8 := [180, 0, 44, 182, 0, 110, 27, 172]
abbrev dktX1_clear_1 : List UInt8 := dkwX1_clear_1 ++ []
def dkwX1_clear_0 : List UInt8 := [42, 180, 0, 37, 180, 0, 103, 182, 0, 107, 60, 42, 187, 0, 34, 89, 183, 0, 36, 181, 0, 37, 42]
abbrev dktX1_clear_0 : List UInt8 := dkwX1_clear_0 ++ dktX1_clear_1
theorem dksX1_clear_0 : cX1_clear.data.toList.drop 0 = dktX1_clear_0 := by decide +kernel
theorem dksX1_clear_1 : cX1_clear.data.toList.drop 23 = dktX1_clear_1 := dk_seg dksX1_clear_0 23 rfl rfl
theorem dX1_clear_0 : decode cX1_clear 0 = .ok (.aload_n 0, 1) := dk_42 (dk_at dksX1_clear_0 0 rfl rfl)
theorem dX1_clear_1 : decode cX1_clear 1 = .ok (.getfield 37, 3) := dk_180 0 37 (dk_at dksX1_clear_0 1 rfl rfl)
theorem dX1_clear_4 : decode cX1_clear 4 = .ok (.getfield 103, 3) := dk_180 0 103 (dk_at dksX1_clear_0 4 rfl rfl)
theorem dX1_clear_7 : decode cX1_clear 7 = .ok (.invokevirtual 107, 3) := dk_182 0 107 (dk_at dksX1_clear_0 7 rfl rfl)
theorem dX1_clear_10 : decode cX1_clear 10 = .ok (.istore_n 1, 1) := dk_60 (dk_at dksX1_clear_0 10 rfl rfl)
theorem dX1_clear_11 : decode cX1_clear 11 = .ok (.aload_n 0, 1) := dk_42 (dk_at dksX1_clear_0 11 rfl rfl)
theorem dX1_clear_12 : decode cX1_clear 12 = .ok (.new 34, 3) := dk_187 0 34 (dk_at dksX1_clear_0 12 rfl rfl)
theorem dX1_clear_15 : decode cX1_clear 15 = .ok (.dup, 1) := dk_89 (dk_at dksX1_clear_0 15 rfl rfl)
theorem dX1_clear_16 : decode cX1_clear 16 = .ok (.invokespecial 36, 3) := dk_183 0 36 (dk_at dksX1_clear_0 16 rfl rfl)
theorem dX1_clear_19 : decode cX1_clear 19 = .ok (.putfield 37, 3) := dk_181 0 37 (dk_at dksX1_clear_0 19 rfl rfl)
theorem dX1_clear_22 : decode cX1_clear 22 = .ok (.aload_n 0, 1) := dk_42 (dk_at dksX1_clear_0 22 rfl rfl)
theorem dX1_clear_23 : decode cX1_clear 23 = .ok (.getfield 44, 3) := dk_180 0 44 (dk_at dksX1_clear_1 0 rfl rfl)
theorem dX1_clear_26 : decode cX1_clear 26 = .ok (.invokevirtual 110, 3) := dk_182 0 110 (dk_at dksX1_clear_1 3 rfl rfl)
theorem dX1_clear_29 : decode cX1_clear 29 = .ok (.iload_n 1, 1) := dk_27 (dk_at dksX1_clear_1 6 rfl rfl)
theorem dX1_clear_30 : decode cX1_clear 30 = .ok (.ireturn, 1) := dk_172 (dk_at dksX1_clear_1 7 rfl rfl)
abbrev cX1_isStill : ByteArray := prog_1_method_23_code
def yX1_isStill : MethodName := ⟨RX1, "isStill", "()Z"⟩
def dkwX1_isStill_0 : List UInt8 := [42, 180, 0, 37, 182, 0, 205, 172]
abbrev dktX1_isStill_0 : List UInt8 := dkwX1_isStill_0 ++ []
theorem dksX1_isStill_0 : cX1_isStill.data.toList.drop 0 = dktX1_isStill_0 := by decide +kernel
theorem dX1_isStill_0 : decode cX1_isStill 0 = .ok (.aload_n 0, 1) := dk_42 (dk_at dksX1_isStill_0 0 rfl rfl)
theorem dX1_isStill_1 : decode cX1_isStill 1 = .ok (.getfield 37, 3) := dk_180 0 37 (dk_at dksX1_isStill_0 1 rfl rfl)
theorem dX1_isStill_4 : decode cX1_isStill 4 = .ok (.invokevirtual 205, 3) := dk_182 0 205 (dk_at dksX1_isStill_0 4 rfl rfl)
theorem dX1_isStill_7 : decode cX1_isStill 7 = .ok (.ireturn, 1) := dk_172 (dk_at dksX1_isStill_0 7 rfl rfl)
abbrev cX1_checkElement : ByteArray := prog_1_method_5_code
def yX1_checkElement : MethodName := ⟨RX1, "checkElement", "(Z)V"⟩
def dkwX1_checkElement_0 : List UInt8 := [26, 154, 0, 11, 187, 0, 13, 89, 183, 0, 15, 191, 177]
abbrev dktX1_checkElement_0 : List UInt8 := dkwX1_checkElement_0 ++ []
theorem dksX1_checkElement_0 : cX1_checkElement.data.toList.drop 0 = dktX1_checkElement_0 := by decide +kernel
theorem dX1_checkElement_0 : decode cX1_checkElement 0 = .ok (.iload_n 0, 1) := dk_26 (dk_at dksX1_checkElement_0 0 rfl rfl)
theorem dX1_checkElement_1 : decode cX1_checkElement 1 = .ok (.ifCond .ne 11, 3) := dk_154 0 11 (dk_at dksX1_checkElement_0 1 rfl rfl)
theorem dX1_checkElement_4 : decode cX1_checkElement 4 = .ok (.new 13, 3) := dk_187 0 13 (dk_at dksX1_checkElement_0 4 rfl rfl)
theorem dX1_checkElement_7 : decode cX1_checkElement 7 = .ok (.dup, 1) := dk_89 (dk_at dksX1_checkElement_0 7 rfl rfl)
theorem dX1_checkElement_8 : decode cX1_checkElement 8 = .ok (.invokespecial 15, 3) := dk_183 0 15 (dk_at dksX1_checkElement_0 8 rfl rfl)
theorem dX1_checkElement_11 : decode cX1_checkElement 11 = .ok (.athrow, 1) := dk_191 (dk_at dksX1_checkElement_0 11 rfl rfl)
theorem dX1_checkElement_12 : decode cX1_checkElement 12 = .ok (.return_, 1) := dk_177 (dk_at dksX1_checkElement_0 12 rfl rfl)
abbrev cX1_roundsToStill : ByteArray := prog_1_method_24_code
def yX1_roundsToStill : MethodName := ⟨RX1, "roundsToStill", "()I"⟩
def dkwX1_roundsToStill_0 : List UInt8 := [42, 180, 0, 37, 182, 0, 209, 172]
abbrev dktX1_roundsToStill_0 : List UInt8 := dkwX1_roundsToStill_0 ++ []
theorem dksX1_roundsToStill_0 : cX1_roundsToStill.data.toList.drop 0 = dktX1_roundsToStill_0 := by decide +kernel
theorem dX1_roundsToStill_0 : decode cX1_roundsToStill 0 = .ok (.aload_n 0, 1) := dk_42 (dk_at dksX1_roundsToStill_0 0 rfl rfl)
theorem dX1_roundsToStill_1 : decode cX1_roundsToStill 1 = .ok (.getfield 37, 3) := dk_180 0 37 (dk_at dksX1_roundsToStill_0 1 rfl rfl)
theorem dX1_roundsToStill_4 : decode cX1_roundsToStill 4 = .ok (.invokevirtual 209, 3) := dk_182 0 209 (dk_at dksX1_roundsToStill_0 4 rfl rfl)
theorem dX1_roundsToStill_7 : decode cX1_roundsToStill 7 = .ok (.ireturn, 1) := dk_172 (dk_at dksX1_roundsToStill_0 7 rfl rfl)
abbrev cX1_spread : ByteArray := prog_1_method_25_code
def yX1_spread : MethodName := ⟨RX1, "spread", "(Z)I"⟩
def dkwX1_spread_0 : List UInt8 := [27, 153, 0, 13, 42, 180, 0, 37, 182, 0, 212, 167, 0, 10, 42, 180, 0, 37, 182, 0, 215, 172]
abbrev dktX1_spread_0 : List UInt8 := dkwX1_spread_0 ++ []
theorem dksX1_spread_0 : cX1_spread.data.toList.drop 0 = dktX1_spread_0 := by decide +kernel
theorem dX1_spread_0 : decode cX1_spread 0 = .ok (.iload_n 1, 1) := dk_27 (dk_at dksX1_spread_0 0 rfl rfl)
theorem dX1_spread_1 : decode cX1_spread 1 = .ok (.ifCond .eq 13, 3) := dk_153 0 13 (dk_at dksX1_spread_0 1 rfl rfl)
theorem dX1_spread_4 : decode cX1_spread 4 = .ok (.aload_n 0, 1) := dk_42 (dk_at dksX1_spread_0 4 rfl rfl)
theorem dX1_spread_5 : decode cX1_spread 5 = .ok (.getfield 37, 3) := dk_180 0 37 (dk_at dksX1_spread_0 5 rfl rfl)
theorem dX1_spread_8 : decode cX1_spread 8 = .ok (.invokevirtual 212, 3) := dk_182 0 212 (dk_at dksX1_spread_0 8 rfl rfl)
theorem dX1_spread_11 : decode cX1_spread 11 = .ok (.goto 10, 3) := dk_167 0 10 (dk_at dksX1_spread_0 11 rfl rfl)
theorem dX1_spread_14 : decode cX1_spread 14 = .ok (.aload_n 0, 1) := dk_42 (dk_at dksX1_spread_0 14 rfl rfl)
theorem dX1_spread_15 : decode cX1_spread 15 = .ok (.getfield 37, 3) := dk_180 0 37 (dk_at dksX1_spread_0 15 rfl rfl)
theorem dX1_spread_18 : decode cX1_spread 18 = .ok (.invokevirtual 215, 3) := dk_182 0 215 (dk_at dksX1_spread_0 18 rfl rfl)
theorem dX1_spread_21 : decode cX1_spread 21 = .ok (.ireturn, 1) := dk_172 (dk_at dksX1_spread_0 21 rfl rfl)
abbrev cX1_strays : ByteArray := prog_1_method_29_code
def yX1_strays : MethodName := ⟨RX1, "strays", "()I"⟩
def dkwX1_strays_0 : List UInt8 := [42, 180, 0, 37, 182, 0, 237, 182, 0, 107, 172]
abbrev dktX1_strays_0 : List UInt8 := dkwX1_strays_0 ++ []
theorem dksX1_strays_0 : cX1_strays.data.toList.drop 0 = dktX1_strays_0 := by decide +kernel
theorem dX1_strays_0 : decode cX1_strays 0 = .ok (.aload_n 0, 1) := dk_42 (dk_at dksX1_strays_0 0 rfl rfl)
theorem dX1_strays_1 : decode cX1_strays 1 = .ok (.getfield 37, 3) := dk_180 0 37 (dk_at dksX1_strays_0 1 rfl rfl)
theorem dX1_strays_4 : decode cX1_strays 4 = .ok (.invokevirtual 237, 3) := dk_182 0 237 (dk_at dksX1_strays_0 4 rfl rfl)
theorem dX1_strays_7 : decode cX1_strays 7 = .ok (.invokevirtual 107, 3) := dk_182 0 107 (dk_at dksX1_strays_0 7 rfl rfl)
theorem dX1_strays_10 : decode cX1_strays 10 = .ok (.ireturn, 1) := dk_172 (dk_at dksX1_strays_0 10 rfl rfl)
abbrev cX1_isRight : ByteArray := prog_1_method_36_code
def yX1_isRight : MethodName := ⟨RX1, "isRight", "()Z"⟩
def dkwX1_isRight_0 : List UInt8 := [42, 180, 0, 37, 182, 1, 1, 172]
abbrev dktX1_isRight_0 : List UInt8 := dkwX1_isRight_0 ++ []
theorem dksX1_isRight_0 : cX1_isRight.data.toList.drop 0 = dktX1_isRight_0 := by decide +kernel
theorem dX1_isRight_0 : decode cX1_isRight 0 = .ok (.aload_n 0, 1) := dk_42 (dk_at dksX1_isRight_0 0 rfl rfl)
theorem dX1_isRight_1 : decode cX1_isRight 1 = .ok (.getfield 37, 3) := dk_180 0 37 (dk_at dksX1_isRight_0 1 rfl rfl)
theorem dX1_isRight_4 : decode cX1_isRight 4 = .ok (.invokevirtual 257, 3) := dk_182 1 1 (dk_at dksX1_isRight_0 4 rfl rfl)
theorem dX1_isRight_7 : decode cX1_isRight 7 = .ok (.ireturn, 1) := dk_172 (dk_at dksX1_isRight_0 7 rfl rfl)
abbrev cX1_inRange : ByteArray := prog_1_method_1_code
def yX1_inRange : MethodName := ⟨RX1, "inRange", "(JJJ)Z"⟩
def dkwX1_inRange_0 : List UInt8 := [30, 32, 148, 155, 0, 14, 30, 22, 4, 148, 157, 0, 7, 4, 167, 0, 4, 3, 172]
abbrev dktX1_inRange_0 : List UInt8 := dkwX1_inRange_0 ++ []
theorem dksX1_inRange_0 : cX1_inRange.data.toList.drop 0 = dktX1_inRange_0 := by decide +kernel
theorem dX1_inRange_0 : decode cX1_inRange 0 = .ok (.lload_n 0, 1) := dk_30 (dk_at dksX1_inRange_0 0 rfl rfl)
theorem dX1_inRange_1 : decode cX1_inRange 1 = .ok (.lload_n 2, 1) := dk_32 (dk_at dksX1_inRange_0 1 rfl rfl)
theorem dX1_inRange_2 : decode cX1_inRange 2 = .ok (.lcmp, 1) := dk_148 (dk_at dksX1_inRange_0 2 rfl rfl)
theorem dX1_inRange_3 : decode cX1_inRange 3 = .ok (.ifCond .lt 14, 3) := dk_155 0 14 (dk_at dksX1_inRange_0 3 rfl rfl)
theorem dX1_inRange_6 : decode cX1_inRange 6 = .ok (.lload_n 0, 1) := dk_30 (dk_at dksX1_inRange_0 6 rfl rfl)
theorem dX1_inRange_7 : decode cX1_inRange 7 = .ok (.lload 4, 2) := dk_22 4 (dk_at dksX1_inRange_0 7 rfl rfl)
theorem dX1_inRange_9 : decode cX1_inRange 9 = .ok (.lcmp, 1) := dk_148 (dk_at dksX1_inRange_0 9 rfl rfl)
theorem dX1_inRange_10 : decode cX1_inRange 10 = .ok (.ifCond .gt 7, 3) := dk_157 0 7 (dk_at dksX1_inRange_0 10 rfl rfl)
theorem dX1_inRange_13 : decode cX1_inRange 13 = .ok (.iconst 1, 1) := dk_4 (dk_at dksX1_inRange_0 13 rfl rfl)
theorem dX1_inRange_14 : decode cX1_inRange 14 = .ok (.goto 4, 3) := dk_167 0 4 (dk_at dksX1_inRange_0 14 rfl rfl)
theorem dX1_inRange_17 : decode cX1_inRange 17 = .ok (.iconst 0, 1) := dk_3 (dk_at dksX1_inRange_0 17 rfl rfl)
theorem dX1_inRange_18 : decode cX1_inRange 18 = .ok (.ireturn, 1) := dk_172 (dk_at dksX1_inRange_0 18 rfl rfl)
abbrev cX1_line : ByteArray := prog_1_method_38_code
def yX1_line : MethodName := ⟨RX1, "line", "()I"⟩
def dkwX1_line_0 : List UInt8 := [42, 42, 180, 0, 37, 182, 1, 13, 181, 0, 57, 42, 180, 0, 57, 182, 1, 8, 172]
abbrev dktX1_line_0 : List UInt8 := dkwX1_line_0 ++ []
theorem dksX1_line_0 : cX1_line.data.toList.drop 0 = dktX1_line_0 := by decide +kernel
theorem dX1_line_0 : decode cX1_line 0 = .ok (.aload_n 0, 1) := dk_42 (dk_at dksX1_line_0 0 rfl rfl)
theorem dX1_line_1 : decode cX1_line 1 = .ok (.aload_n 0, 1) := dk_42 (dk_at dksX1_line_0 1 rfl rfl)
theorem dX1_line_2 : decode cX1_line 2 = .ok (.getfield 37, 3) := dk_180 0 37 (dk_at dksX1_line_0 2 rfl rfl)
theorem dX1_line_5 : decode cX1_line 5 = .ok (.invokevirtual 269, 3) := dk_182 1 13 (dk_at dksX1_line_0 5 rfl rfl)
theorem dX1_line_8 : decode cX1_line 8 = .ok (.putfield 57, 3) := dk_181 0 57 (dk_at dksX1_line_0 8 rfl rfl)
theorem dX1_line_11 : decode cX1_line 11 = .ok (.aload_n 0, 1) := dk_42 (dk_at dksX1_line_0 11 rfl rfl)
theorem dX1_line_12 : decode cX1_line 12 = .ok (.getfield 57, 3) := dk_180 0 57 (dk_at dksX1_line_0 12 rfl rfl)
theorem dX1_line_15 : decode cX1_line 15 = .ok (.invokevirtual 264, 3) := dk_182 1 8 (dk_at dksX1_line_0 15 rfl rfl)
theorem dX1_line_18 : decode cX1_line 18 = .ok (.ireturn, 1) := dk_172 (dk_at dksX1_line_0 18 rfl rfl)
abbrev cX1_snapshot : ByteArray := prog_1_method_52_code
def yX1_snapshot : MethodName := ⟨RX1, "snapshot", "()I"⟩
def dkwX1_snapshot_0 : List UInt8 := [42, 42, 180, 0, 37, 181, 1, 105, 42, 180, 0, 37, 180, 0, 103, 182, 0, 107, 172]
abbrev dktX1_snapshot_0 : List UInt8 := dkwX1_snapshot_0 ++ []
theorem dksX1_snapshot_0 : cX1_snapshot.data.toList.drop 0 = dktX1_snapshot_0 := by decide +kernel
theorem dX1_snapshot_0 : decode cX1_snapshot 0 = .ok (.aload_n 0, 1) := dk_42 (dk_at dksX1_snapshot_0 0 rfl rfl)
theorem dX1_snapshot_1 : decode cX1_snapshot 1 = .ok (.aload_n 0, 1) := dk_42 (dk_at dksX1_snapshot_0 1 rfl rfl)
theorem dX1_snapshot_2 : decode cX1_snapshot 2 = .ok (.getfield 37, 3) := dk_180 0 37 (dk_at dksX1_snapshot_0 2 rfl rfl)
theorem dX1_snapshot_5 : decode cX1_snapshot 5 = .ok (.putfield 361, 3) := dk_181 1 105 (dk_at dksX1_snapshot_0 5 rfl rfl)
theorem dX1_snapshot_8 : decode cX1_snapshot 8 = .ok (.aload_n 0, 1) := dk_42 (dk_at dksX1_snapshot_0 8 rfl rfl)
theorem dX1_snapshot_9 : decode cX1_snapshot 9 = .ok (.getfield 37, 3) := dk_180 0 37 (dk_at dksX1_snapshot_0 9 rfl rfl)
theorem dX1_snapshot_12 : decode cX1_snapshot 12 = .ok (.getfield 103, 3) := dk_180 0 103 (dk_at dksX1_snapshot_0 12 rfl rfl)
theorem dX1_snapshot_15 : decode cX1_snapshot 15 = .ok (.invokevirtual 107, 3) := dk_182 0 107 (dk_at dksX1_snapshot_0 15 rfl rfl)
theorem dX1_snapshot_18 : decode cX1_snapshot 18 = .ok (.ireturn, 1) := dk_172 (dk_at dksX1_snapshot_0 18 rfl rfl)
abbrev cX1_sheep : ByteArray := prog_1_method_12_code
def yX1_sheep : MethodName := ⟨RX1, "sheep", "(III)I"⟩
def dkwX1_sheep_0 : List UInt8 := [42, 18, 113, 6, 188, 10, 89, 3, 27, 79, 89, 4, 28, 79, 89, 5, 29, 79, 182, 0, 114, 172]
abbrev dktX1_sheep_0 : List UInt8 := dkwX1_sheep_0 ++ []
theorem dksX1_sheep_0 : cX1_sheep.data.toList.drop 0 = dktX1_sheep_0 := by decide +kernel
theorem dX1_sheep_0 : decode cX1_sheep 0 = .ok (.aload_n 0, 1) := dk_42 (dk_at dksX1_sheep_0 0 rfl rfl)
theorem dX1_sheep_1 : decode cX1_sheep 1 = .ok (.ldc 113, 2) := dk_18 113 (dk_at dksX1_sheep_0 1 rfl rfl)
theorem dX1_sheep_3 : decode cX1_sheep 3 = .ok (.iconst 3, 1) := dk_6 (dk_at dksX1_sheep_0 3 rfl rfl)
theorem dX1_sheep_4 : decode cX1_sheep 4 = .ok (.newarray .int, 2) := dk_188_10 (dk_at dksX1_sheep_0 4 rfl rfl)
theorem dX1_sheep_6 : decode cX1_sheep 6 = .ok (.dup, 1) := dk_89 (dk_at dksX1_sheep_0 6 rfl rfl)
theorem dX1_sheep_7 : decode cX1_sheep 7 = .ok (.iconst 0, 1) := dk_3 (dk_at dksX1_sheep_0 7 rfl rfl)
theorem dX1_sheep_8 : decode cX1_sheep 8 = .ok (.iload_n 1, 1) := dk_27 (dk_at dksX1_sheep_0 8 rfl rfl)
theorem dX1_sheep_9 : decode cX1_sheep 9 = .ok (.iastore, 1) := dk_79 (dk_at dksX1_sheep_0 9 rfl rfl)
theorem dX1_sheep_10 : decode cX1_sheep 10 = .ok (.dup, 1) := dk_89 (dk_at dksX1_sheep_0 10 rfl rfl)
theorem dX1_sheep_11 : decode cX1_sheep 11 = .ok (.iconst 1, 1) := dk_4 (dk_at dksX1_sheep_0 11 rfl rfl)
theorem dX1_sheep_12 : decode cX1_sheep 12 = .ok (.iload_n 2, 1) := dk_28 (dk_at dksX1_sheep_0 12 rfl rfl)
theorem dX1_sheep_13 : decode cX1_sheep 13 = .ok (.iastore, 1) := dk_79 (dk_at dksX1_sheep_0 13 rfl rfl)
theorem dX1_sheep_14 : decode cX1_sheep 14 = .ok (.dup, 1) := dk_89 (dk_at dksX1_sheep_0 14 rfl rfl)
theorem dX1_sheep_15 : decode cX1_sheep 15 = .ok (.iconst 2, 1) := dk_5 (dk_at dksX1_sheep_0 15 rfl rfl)
theorem dX1_sheep_16 : decode cX1_sheep 16 = .ok (.iload_n 3, 1) := dk_29 (dk_at dksX1_sheep_0 16 rfl rfl)
theorem dX1_sheep_17 : decode cX1_sheep 17 = .ok (.iastore, 1) := dk_79 (dk_at dksX1_sheep_0 17 rfl rfl)
theorem dX1_sheep_18 : decode cX1_sheep 18 = .ok (.invokevirtual 114, 3) := dk_182 0 114 (dk_at dksX1_sheep_0 18 rfl rfl)
theorem dX1_sheep_21 : decode cX1_sheep 21 = .ok (.ireturn, 1) := dk_172 (dk_at dksX1_sheep_0 21 rfl rfl)
abbrev cX1_change : ByteArray := prog_1_method_10_code
def yX1_change : MethodName := ⟨RX1, "change", "(Ljava/lang/String;[I)I"⟩
def dkwX1_change_2 : List UInt8 := [21, 4, 172]
abbrev dktX1_change_2 : List UInt8 := dkwX1_change_2 ++ []
def dkwX1_change_1 : List UInt8 := [167, 0, 19, 58, 5, 42, 25, 5, 181, 0, 92, 187, 0, 96, 89, 183, 0, 98, 191, 42, 45, 182, 0, 99]
abbrev dktX1_change_1 : List UInt8 := dkwX1_change_1 ++ dktX1_change_2
def dkwX1_change_0 : List UInt8 := [42, 180, 0, 37, 182, 0, 77, 78, 187, 0, 81, 89, 43, 44, 183, 0, 83, 45, 182, 0, 86, 54, 4]
abbrev dktX1_change_0 : List UInt8 := dkwX1_change_0 ++ dktX1_change_1
theorem dksX1_change_0 : cX1_change.data.toList.drop 0 = dktX1_change_0 := by decide +kernel
theorem dksX1_change_1 : cX1_change.data.toList.drop 23 = dktX1_change_1 := dk_seg dksX1_change_0 23 rfl rfl
theorem dksX1_change_2 : cX1_change.data.toList.drop 47 = dktX1_change_2 := dk_seg dksX1_change_1 24 rfl rfl
theorem dX1_change_0 : decode cX1_change 0 = .ok (.aload_n 0, 1) := dk_42 (dk_at dksX1_change_0 0 rfl rfl)
theorem dX1_change_1 : decode cX1_change 1 = .ok (.getfield 37, 3) := dk_180 0 37 (dk_at dksX1_change_0 1 rfl rfl)
theorem dX1_change_4 : decode cX1_change 4 = .ok (.invokevirtual 77, 3) := dk_182 0 77 (dk_at dksX1_change_0 4 rfl rfl)
theorem dX1_change_7 : decode cX1_change 7 = .ok (.astore_n 3, 1) := dk_78 (dk_at dksX1_change_0 7 rfl rfl)
theorem dX1_change_8 : decode cX1_change 8 = .ok (.new 81, 3) := dk_187 0 81 (dk_at dksX1_change_0 8 rfl rfl)
theorem dX1_change_11 : decode cX1_change 11 = .ok (.dup, 1) := dk_89 (dk_at dksX1_change_0 11 rfl rfl)
theorem dX1_change_12 : decode cX1_change 12 = .ok (.aload_n 1, 1) := dk_43 (dk_at dksX1_change_0 12 rfl rfl)
theorem dX1_change_13 : decode cX1_change 13 = .ok (.aload_n 2, 1) := dk_44 (dk_at dksX1_change_0 13 rfl rfl)
theorem dX1_change_14 : decode cX1_change 14 = .ok (.invokespecial 83, 3) := dk_183 0 83 (dk_at dksX1_change_0 14 rfl rfl)
theorem dX1_change_17 : decode cX1_change 17 = .ok (.aload_n 3, 1) := dk_45 (dk_at dksX1_change_0 17 rfl rfl)
theorem dX1_change_18 : decode cX1_change 18 = .ok (.invokevirtual 86, 3) := dk_182 0 86 (dk_at dksX1_change_0 18 rfl rfl)
theorem dX1_change_21 : decode cX1_change 21 = .ok (.istore 4, 2) := dk_54 4 (dk_at dksX1_change_0 21 rfl rfl)
theorem dX1_change_23 : decode cX1_change 23 = .ok (.goto 19, 3) := dk_167 0 19 (dk_at dksX1_change_1 0 rfl rfl)
theorem dX1_change_26 : decode cX1_change 26 = .ok (.astore 5, 2) := dk_58 5 (dk_at dksX1_change_1 3 rfl rfl)
theorem dX1_change_28 : decode cX1_change 28 = .ok (.aload_n 0, 1) := dk_42 (dk_at dksX1_change_1 5 rfl rfl)
theorem dX1_change_29 : decode cX1_change 29 = .ok (.aload 5, 2) := dk_25 5 (dk_at dksX1_change_1 6 rfl rfl)
theorem dX1_change_31 : decode cX1_change 31 = .ok (.putfield 92, 3) := dk_181 0 92 (dk_at dksX1_change_1 8 rfl rfl)
theorem dX1_change_34 : decode cX1_change 34 = .ok (.new 96, 3) := dk_187 0 96 (dk_at dksX1_change_1 11 rfl rfl)
theorem dX1_change_37 : decode cX1_change 37 = .ok (.dup, 1) := dk_89 (dk_at dksX1_change_1 14 rfl rfl)
theorem dX1_change_38 : decode cX1_change 38 = .ok (.invokespecial 98, 3) := dk_183 0 98 (dk_at dksX1_change_1 15 rfl rfl)
theorem dX1_change_41 : decode cX1_change 41 = .ok (.athrow, 1) := dk_191 (dk_at dksX1_change_1 18 rfl rfl)
theorem dX1_change_42 : decode cX1_change 42 = .ok (.aload_n 0, 1) := dk_42 (dk_at dksX1_change_1 19 rfl rfl)
theorem dX1_change_43 : decode cX1_change 43 = .ok (.aload_n 3, 1) := dk_45 (dk_at dksX1_change_1 20 rfl rfl)
theorem dX1_change_44 : decode cX1_change 44 = .ok (.invokevirtual 99, 3) := dk_182 0 99 (dk_at dksX1_change_1 21 rfl rfl)
theorem dX1_change_47 : decode cX1_change 47 = .ok (.iload 4, 2) := dk_21 4 (dk_at dksX1_change_2 0 rfl rfl)
theorem dX1_change_49 : decode cX1_change 49 = .ok (.ireturn, 1) := dk_172 (dk_at dksX1_change_2 2 rfl rfl)
abbrev cX1_checkPlaces : ByteArray := prog_1_method_7_code
def yX1_checkPlaces : MethodName := ⟨RX1, "checkPlaces", "([I)V"⟩
def dkwX1_checkPlaces_1 : List UInt8 := [184, 0, 23, 184, 0, 27, 132, 3, 1, 167, 255, 230, 177]
abbrev dktX1_checkPlaces_1 : List UInt8 := dkwX1_checkPlaces_1 ++ []
def dkwX1_checkPlaces_0 : List UInt8 := [42, 76, 43, 190, 61, 3, 62, 29, 28, 162, 0, 27, 43, 29, 46, 54, 4, 21, 4, 133, 9, 20, 0, 21]
abbrev dktX1_checkPlaces_0 : List UInt8 := dkwX1_checkPlaces_0 ++ dktX1_checkPlaces_1
theorem dksX1_checkPlaces_0 : cX1_checkPlaces.data.toList.drop 0 = dktX1_checkPlaces_0 := by decide +kernel
theorem dksX1_checkPlaces_1 : cX1_checkPlaces.data.toList.drop 24 = dktX1_checkPlaces_1 := dk_seg dksX1_checkPlaces_0 24 rfl rfl
theorem dX1_checkPlaces_0 : decode cX1_checkPlaces 0 = .ok (.aload_n 0, 1) := dk_42 (dk_at dksX1_checkPlaces_0 0 rfl rfl)
theorem dX1_checkPlaces_1 : decode cX1_checkPlaces 1 = .ok (.astore_n 1, 1) := dk_76 (dk_at dksX1_checkPlaces_0 1 rfl rfl)
theorem dX1_checkPlaces_2 : decode cX1_checkPlaces 2 = .ok (.aload_n 1, 1) := dk_43 (dk_at dksX1_checkPlaces_0 2 rfl rfl)
theorem dX1_checkPlaces_3 : decode cX1_checkPlaces 3 = .ok (.arraylength, 1) := dk_190 (dk_at dksX1_checkPlaces_0 3 rfl rfl)
theorem dX1_checkPlaces_4 : decode cX1_checkPlaces 4 = .ok (.istore_n 2, 1) := dk_61 (dk_at dksX1_checkPlaces_0 4 rfl rfl)
theorem dX1_checkPlaces_5 : decode cX1_checkPlaces 5 = .ok (.iconst 0, 1) := dk_3 (dk_at dksX1_checkPlaces_0 5 rfl rfl)
theorem dX1_checkPlaces_6 : decode cX1_checkPlaces 6 = .ok (.istore_n 3, 1) := dk_62 (dk_at dksX1_checkPlaces_0 6 rfl rfl)
theorem dX1_checkPlaces_7 : decode cX1_checkPlaces 7 = .ok (.iload_n 3, 1) := dk_29 (dk_at dksX1_checkPlaces_0 7 rfl rfl)
theorem dX1_checkPlaces_8 : decode cX1_checkPlaces 8 = .ok (.iload_n 2, 1) := dk_28 (dk_at dksX1_checkPlaces_0 8 rfl rfl)
theorem dX1_checkPlaces_9 : decode cX1_checkPlaces 9 = .ok (.if_icmp .ge 27, 3) := dk_162 0 27 (dk_at dksX1_checkPlaces_0 9 rfl rfl)
theorem dX1_checkPlaces_12 : decode cX1_checkPlaces 12 = .ok (.aload_n 1, 1) := dk_43 (dk_at dksX1_checkPlaces_0 12 rfl rfl)
theorem dX1_checkPlaces_13 : decode cX1_checkPlaces 13 = .ok (.iload_n 3, 1) := dk_29 (dk_at dksX1_checkPlaces_0 13 rfl rfl)
theorem dX1_checkPlaces_14 : decode cX1_checkPlaces 14 = .ok (.iaload, 1) := dk_46 (dk_at dksX1_checkPlaces_0 14 rfl rfl)
theorem dX1_checkPlaces_15 : decode cX1_checkPlaces 15 = .ok (.istore 4, 2) := dk_54 4 (dk_at dksX1_checkPlaces_0 15 rfl rfl)
theorem dX1_checkPlaces_17 : decode cX1_checkPlaces 17 = .ok (.iload 4, 2) := dk_21 4 (dk_at dksX1_checkPlaces_0 17 rfl rfl)
theorem dX1_checkPlaces_19 : decode cX1_checkPlaces 19 = .ok (.i2l, 1) := dk_133 (dk_at dksX1_checkPlaces_0 19 rfl rfl)
theorem dX1_checkPlaces_20 : decode cX1_checkPlaces 20 = .ok (.lconst 0, 1) := dk_9 (dk_at dksX1_checkPlaces_0 20 rfl rfl)
theorem dX1_checkPlaces_21 : decode cX1_checkPlaces 21 = .ok (.ldc2_w 21, 3) := dk_20 0 21 (dk_at dksX1_checkPlaces_0 21 rfl rfl)
theorem dX1_checkPlaces_24 : decode cX1_checkPlaces 24 = .ok (.invokestatic 23, 3) := dk_184 0 23 (dk_at dksX1_checkPlaces_1 0 rfl rfl)
theorem dX1_checkPlaces_27 : decode cX1_checkPlaces 27 = .ok (.invokestatic 27, 3) := dk_184 0 27 (dk_at dksX1_checkPlaces_1 3 rfl rfl)
theorem dX1_checkPlaces_30 : decode cX1_checkPlaces 30 = .ok (.iinc 3 1, 3) := dk_132 3 1 (dk_at dksX1_checkPlaces_1 6 rfl rfl)
theorem dX1_checkPlaces_33 : decode cX1_checkPlaces 33 = .ok (.goto (-26), 3) := dk_167 255 230 (dk_at dksX1_checkPlaces_1 9 rfl rfl)
theorem dX1_checkPlaces_36 : decode cX1_checkPlaces 36 = .ok (.return_, 1) := dk_177 (dk_at dksX1_checkPlaces_1 12 rfl rfl)
abbrev cX1_checkArgument : ByteArray := prog_1_method_2_code
def yX1_checkArgument : MethodName := ⟨RX1, "checkArgument", "(Z)V"⟩
def dkwX1_checkArgument_0 : List UInt8 := [26, 154, 0, 11, 187, 0, 1, 89, 183, 0, 3, 191, 177]
abbrev dktX1_checkArgument_0 : List UInt8 := dkwX1_checkArgument_0 ++ []
theorem dksX1_checkArgument_0 : cX1_checkArgument.data.toList.drop 0 = dktX1_checkArgument_0 := by decide +kernel
theorem dX1_checkArgument_0 : decode cX1_checkArgument 0 = .ok (.iload_n 0, 1) := dk_26 (dk_at dksX1_checkArgument_0 0 rfl rfl)
theorem dX1_checkArgument_1 : decode cX1_checkArgument 1 = .ok (.ifCond .ne 11, 3) := dk_154 0 11 (dk_at dksX1_checkArgument_0 1 rfl rfl)
theorem dX1_checkArgument_4 : decode cX1_checkArgument 4 = .ok (.new 1, 3) := dk_187 0 1 (dk_at dksX1_checkArgument_0 4 rfl rfl)
theorem dX1_checkArgument_7 : decode cX1_checkArgument 7 = .ok (.dup, 1) := dk_89 (dk_at dksX1_checkArgument_0 7 rfl rfl)
theorem dX1_checkArgument_8 : decode cX1_checkArgument 8 = .ok (.invokespecial 3, 3) := dk_183 0 3 (dk_at dksX1_checkArgument_0 8 rfl rfl)
theorem dX1_checkArgument_11 : decode cX1_checkArgument 11 = .ok (.athrow, 1) := dk_191 (dk_at dksX1_checkArgument_0 11 rfl rfl)
theorem dX1_checkArgument_12 : decode cX1_checkArgument 12 = .ok (.return_, 1) := dk_177 (dk_at dksX1_checkArgument_0 12 rfl rfl)
abbrev cX1_checkIndex : ByteArray := prog_1_method_3_code
def yX1_checkIndex : MethodName := ⟨RX1, "checkIndex", "(Z)V"⟩
def dkwX1_checkIndex_0 : List UInt8 := [26, 154, 0, 11, 187, 0, 7, 89, 183, 0, 9, 191, 177]
abbrev dktX1_checkIndex_0 : List UInt8 := dkwX1_checkIndex_0 ++ []
theorem dksX1_checkIndex_0 : cX1_checkIndex.data.toList.drop 0 = dktX1_checkIndex_0 := by decide +kernel
theorem dX1_checkIndex_0 : decode cX1_checkIndex 0 = .ok (.iload_n 0, 1) := dk_26 (dk_at dksX1_checkIndex_0 0 rfl rfl)
theorem dX1_checkIndex_1 : decode cX1_checkIndex 1 = .ok (.ifCond .ne 11, 3) := dk_154 0 11 (dk_at dksX1_checkIndex_0 1 rfl rfl)
theorem dX1_checkIndex_4 : decode cX1_checkIndex 4 = .ok (.new 7, 3) := dk_187 0 7 (dk_at dksX1_checkIndex_0 4 rfl rfl)
theorem dX1_checkIndex_7 : decode cX1_checkIndex 7 = .ok (.dup, 1) := dk_89 (dk_at dksX1_checkIndex_0 7 rfl rfl)
theorem dX1_checkIndex_8 : decode cX1_checkIndex 8 = .ok (.invokespecial 9, 3) := dk_183 0 9 (dk_at dksX1_checkIndex_0 8 rfl rfl)
theorem dX1_checkIndex_11 : decode cX1_checkIndex 11 = .ok (.athrow, 1) := dk_191 (dk_at dksX1_checkIndex_0 11 rfl rfl)
theorem dX1_checkIndex_12 : decode cX1_checkIndex 12 = .ok (.return_, 1) := dk_177 (dk_at dksX1_checkIndex_0 12 rfl rfl)
abbrev cX1_become : ByteArray := prog_1_method_9_code
def yX1_become : MethodName := ⟨RX1, "become", "(LFlockHuts$Field;)V"⟩
def dkwX1_become_1 : List UInt8 := [180, 0, 44, 42, 180, 0, 37, 182, 0, 73, 42, 43, 181, 0, 37, 177]
abbrev dktX1_become_1 : List UInt8 := dkwX1_become_1 ++ []
def dkwX1_become_0 : List UInt8 := [42, 180, 0, 44, 182, 0, 65, 16, 8, 160, 0, 14, 42, 180, 0, 44, 182, 0, 69, 192, 0, 34, 77, 42]
abbrev dktX1_become_0 : List UInt8 := dkwX1_become_0 ++ dktX1_become_1
theorem dksX1_become_0 : cX1_become.data.toList.drop 0 = dktX1_become_0 := by decide +kernel
theorem dksX1_become_1 : cX1_become.data.toList.drop 24 = dktX1_become_1 := dk_seg dksX1_become_0 24 rfl rfl
theorem dX1_become_0 : decode cX1_become 0 = .ok (.aload_n 0, 1) := dk_42 (dk_at dksX1_become_0 0 rfl rfl)
theorem dX1_become_1 : decode cX1_become 1 = .ok (.getfield 44, 3) := dk_180 0 44 (dk_at dksX1_become_0 1 rfl rfl)
theorem dX1_become_4 : decode cX1_become 4 = .ok (.invokevirtual 65, 3) := dk_182 0 65 (dk_at dksX1_become_0 4 rfl rfl)
theorem dX1_become_7 : decode cX1_become 7 = .ok (.bipush 8, 2) := dk_16 8 (dk_at dksX1_become_0 7 rfl rfl)
theorem dX1_become_9 : decode cX1_become 9 = .ok (.if_icmp .ne 14, 3) := dk_160 0 14 (dk_at dksX1_become_0 9 rfl rfl)
theorem dX1_become_12 : decode cX1_become 12 = .ok (.aload_n 0, 1) := dk_42 (dk_at dksX1_become_0 12 rfl rfl)
theorem dX1_become_13 : decode cX1_become 13 = .ok (.getfield 44, 3) := dk_180 0 44 (dk_at dksX1_become_0 13 rfl rfl)
theorem dX1_become_16 : decode cX1_become 16 = .ok (.invokevirtual 69, 3) := dk_182 0 69 (dk_at dksX1_become_0 16 rfl rfl)
theorem dX1_become_19 : decode cX1_become 19 = .ok (.checkcast 34, 3) := dk_192 0 34 (dk_at dksX1_become_0 19 rfl rfl)
theorem dX1_become_22 : decode cX1_become 22 = .ok (.astore_n 2, 1) := dk_77 (dk_at dksX1_become_0 22 rfl rfl)
theorem dX1_become_23 : decode cX1_become 23 = .ok (.aload_n 0, 1) := dk_42 (dk_at dksX1_become_0 23 rfl rfl)
theorem dX1_become_24 : decode cX1_become 24 = .ok (.getfield 44, 3) := dk_180 0 44 (dk_at dksX1_become_1 0 rfl rfl)
theorem dX1_become_27 : decode cX1_become 27 = .ok (.aload_n 0, 1) := dk_42 (dk_at dksX1_become_1 3 rfl rfl)
theorem dX1_become_28 : decode cX1_become 28 = .ok (.getfield 37, 3) := dk_180 0 37 (dk_at dksX1_become_1 4 rfl rfl)
theorem dX1_become_31 : decode cX1_become 31 = .ok (.invokevirtual 73, 3) := dk_182 0 73 (dk_at dksX1_become_1 7 rfl rfl)
theorem dX1_become_34 : decode cX1_become 34 = .ok (.aload_n 0, 1) := dk_42 (dk_at dksX1_become_1 10 rfl rfl)
theorem dX1_become_35 : decode cX1_become 35 = .ok (.aload_n 1, 1) := dk_43 (dk_at dksX1_become_1 11 rfl rfl)
theorem dX1_become_36 : decode cX1_become 36 = .ok (.putfield 37, 3) := dk_181 0 37 (dk_at dksX1_become_1 12 rfl rfl)
theorem dX1_become_39 : decode cX1_become 39 = .ok (.return_, 1) := dk_177 (dk_at dksX1_become_1 15 rfl rfl)
abbrev cX1_hut : ByteArray := prog_1_method_13_code
def yX1_hut : MethodName := ⟨RX1, "hut", "(II)I"⟩
def dkwX1_hut_0 : List UInt8 := [42, 18, 118, 5, 188, 10, 89, 3, 27, 79, 89, 4, 28, 79, 182, 0, 114, 172]
abbrev dktX1_hut_0 : List UInt8 := dkwX1_hut_0 ++ []
theorem dksX1_hut_0 : cX1_hut.data.toList.drop 0 = dktX1_hut_0 := by decide +kernel
theorem dX1_hut_0 : decode cX1_hut 0 = .ok (.aload_n 0, 1) := dk_42 (dk_at dksX1_hut_0 0 rfl rfl)
theorem dX1_hut_1 : decode cX1_hut 1 = .ok (.ldc 118, 2) := dk_18 118 (dk_at dksX1_hut_0 1 rfl rfl)
theorem dX1_hut_3 : decode cX1_hut 3 = .ok (.iconst 2, 1) := dk_5 (dk_at dksX1_hut_0 3 rfl rfl)
theorem dX1_hut_4 : decode cX1_hut 4 = .ok (.newarray .int, 2) := dk_188_10 (dk_at dksX1_hut_0 4 rfl rfl)
theorem dX1_hut_6 : decode cX1_hut 6 = .ok (.dup, 1) := dk_89 (dk_at dksX1_hut_0 6 rfl rfl)
theorem dX1_hut_7 : decode cX1_hut 7 = .ok (.iconst 0, 1) := dk_3 (dk_at dksX1_hut_0 7 rfl rfl)
theorem dX1_hut_8 : decode cX1_hut 8 = .ok (.iload_n 1, 1) := dk_27 (dk_at dksX1_hut_0 8 rfl rfl)
theorem dX1_hut_9 : decode cX1_hut 9 = .ok (.iastore, 1) := dk_79 (dk_at dksX1_hut_0 9 rfl rfl)
theorem dX1_hut_10 : decode cX1_hut 10 = .ok (.dup, 1) := dk_89 (dk_at dksX1_hut_0 10 rfl rfl)
theorem dX1_hut_11 : decode cX1_hut 11 = .ok (.iconst 1, 1) := dk_4 (dk_at dksX1_hut_0 11 rfl rfl)
theorem dX1_hut_12 : decode cX1_hut 12 = .ok (.iload_n 2, 1) := dk_28 (dk_at dksX1_hut_0 12 rfl rfl)
theorem dX1_hut_13 : decode cX1_hut 13 = .ok (.iastore, 1) := dk_79 (dk_at dksX1_hut_0 13 rfl rfl)
theorem dX1_hut_14 : decode cX1_hut 14 = .ok (.invokevirtual 114, 3) := dk_182 0 114 (dk_at dksX1_hut_0 14 rfl rfl)
theorem dX1_hut_17 : decode cX1_hut 17 = .ok (.ireturn, 1) := dk_172 (dk_at dksX1_hut_0 17 rfl rfl)
abbrev cX1_leave : ByteArray := prog_1_method_14_code
def yX1_leave : MethodName := ⟨RX1, "leave", "(I)I"⟩
def dkwX1_leave_0 : List UInt8 := [42, 18, 120, 4, 188, 10, 89, 3, 27, 79, 182, 0, 114, 172]
abbrev dktX1_leave_0 : List UInt8 := dkwX1_leave_0 ++ []
theorem dksX1_leave_0 : cX1_leave.data.toList.drop 0 = dktX1_leave_0 := by decide +kernel
theorem dX1_leave_0 : decode cX1_leave 0 = .ok (.aload_n 0, 1) := dk_42 (dk_at dksX1_leave_0 0 rfl rfl)
theorem dX1_leave_1 : decode cX1_leave 1 = .ok (.ldc 120, 2) := dk_18 120 (dk_at dksX1_leave_0 1 rfl rfl)
theorem dX1_leave_3 : decode cX1_leave 3 = .ok (.iconst 1, 1) := dk_4 (dk_at dksX1_leave_0 3 rfl rfl)
theorem dX1_leave_4 : decode cX1_leave 4 = .ok (.newarray .int, 2) := dk_188_10 (dk_at dksX1_leave_0 4 rfl rfl)
theorem dX1_leave_6 : decode cX1_leave 6 = .ok (.dup, 1) := dk_89 (dk_at dksX1_leave_0 6 rfl rfl)
theorem dX1_leave_7 : decode cX1_leave 7 = .ok (.iconst 0, 1) := dk_3 (dk_at dksX1_leave_0 7 rfl rfl)
theorem dX1_leave_8 : decode cX1_leave 8 = .ok (.iload_n 1, 1) := dk_27 (dk_at dksX1_leave_0 8 rfl rfl)
theorem dX1_leave_9 : decode cX1_leave 9 = .ok (.iastore, 1) := dk_79 (dk_at dksX1_leave_0 9 rfl rfl)
theorem dX1_leave_10 : decode cX1_leave 10 = .ok (.invokevirtual 114, 3) := dk_182 0 114 (dk_at dksX1_leave_0 10 rfl rfl)
theorem dX1_leave_13 : decode cX1_leave 13 = .ok (.ireturn, 1) := dk_172 (dk_at dksX1_leave_0 13 rfl rfl)
abbrev cX1_strike : ByteArray := prog_1_method_15_code
def yX1_strike : MethodName := ⟨RX1, "strike", "(I)I"⟩
def dkwX1_strike_0 : List UInt8 := [42, 18, 122, 4, 188, 10, 89, 3, 27, 79, 182, 0, 114, 172]
abbrev dktX1_strike_0 : List UInt8 := dkwX1_strike_0 ++ []
theorem dksX1_strike_0 : cX1_strike.data.toList.drop 0 = dktX1_strike_0 := by decide +kernel
theorem dX1_strike_0 : decode cX1_strike 0 = .ok (.aload_n 0, 1) := dk_42 (dk_at dksX1_strike_0 0 rfl rfl)
theorem dX1_strike_1 : decode cX1_strike 1 = .ok (.ldc 122, 2) := dk_18 122 (dk_at dksX1_strike_0 1 rfl rfl)
theorem dX1_strike_3 : decode cX1_strike 3 = .ok (.iconst 1, 1) := dk_4 (dk_at dksX1_strike_0 3 rfl rfl)
theorem dX1_strike_4 : decode cX1_strike 4 = .ok (.newarray .int, 2) := dk_188_10 (dk_at dksX1_strike_0 4 rfl rfl)
theorem dX1_strike_6 : decode cX1_strike 6 = .ok (.dup, 1) := dk_89 (dk_at dksX1_strike_0 6 rfl rfl)
theorem dX1_strike_7 : decode cX1_strike 7 = .ok (.iconst 0, 1) := dk_3 (dk_at dksX1_strike_0 7 rfl rfl)
theorem dX1_strike_8 : decode cX1_strike 8 = .ok (.iload_n 1, 1) := dk_27 (dk_at dksX1_strike_0 8 rfl rfl)
theorem dX1_strike_9 : decode cX1_strike 9 = .ok (.iastore, 1) := dk_79 (dk_at dksX1_strike_0 9 rfl rfl)
theorem dX1_strike_10 : decode cX1_strike 10 = .ok (.invokevirtual 114, 3) := dk_182 0 114 (dk_at dksX1_strike_0 10 rfl rfl)
theorem dX1_strike_13 : decode cX1_strike 13 = .ok (.ireturn, 1) := dk_172 (dk_at dksX1_strike_0 13 rfl rfl)
abbrev cX1_move : ByteArray := prog_1_method_16_code
def yX1_move : MethodName := ⟨RX1, "move", "(III)I"⟩
def dkwX1_move_0 : List UInt8 := [42, 18, 124, 6, 188, 10, 89, 3, 27, 79, 89, 4, 28, 79, 89, 5, 29, 79, 182, 0, 114, 172]
abbrev dktX1_move_0 : List UInt8 := dkwX1_move_0 ++ []
theorem dksX1_move_0 : cX1_move.data.toList.drop 0 = dktX1_move_0 := by decide +kernel
theorem dX1_move_0 : decode cX1_move 0 = .ok (.aload_n 0, 1) := dk_42 (dk_at dksX1_move_0 0 rfl rfl)
theorem dX1_move_1 : decode cX1_move 1 = .ok (.ldc 124, 2) := dk_18 124 (dk_at dksX1_move_0 1 rfl rfl)
theorem dX1_move_3 : decode cX1_move 3 = .ok (.iconst 3, 1) := dk_6 (dk_at dksX1_move_0 3 rfl rfl)
theorem dX1_move_4 : decode cX1_move 4 = .ok (.newarray .int, 2) := dk_188_10 (dk_at dksX1_move_0 4 rfl rfl)
theorem dX1_move_6 : decode cX1_move 6 = .ok (.dup, 1) := dk_89 (dk_at dksX1_move_0 6 rfl rfl)
theorem dX1_move_7 : decode cX1_move 7 = .ok (.iconst 0, 1) := dk_3 (dk_at dksX1_move_0 7 rfl rfl)
theorem dX1_move_8 : decode cX1_move 8 = .ok (.iload_n 1, 1) := dk_27 (dk_at dksX1_move_0 8 rfl rfl)
theorem dX1_move_9 : decode cX1_move 9 = .ok (.iastore, 1) := dk_79 (dk_at dksX1_move_0 9 rfl rfl)
theorem dX1_move_10 : decode cX1_move 10 = .ok (.dup, 1) := dk_89 (dk_at dksX1_move_0 10 rfl rfl)
theorem dX1_move_11 : decode cX1_move 11 = .ok (.iconst 1, 1) := dk_4 (dk_at dksX1_move_0 11 rfl rfl)
theorem dX1_move_12 : decode cX1_move 12 = .ok (.iload_n 2, 1) := dk_28 (dk_at dksX1_move_0 12 rfl rfl)
theorem dX1_move_13 : decode cX1_move 13 = .ok (.iastore, 1) := dk_79 (dk_at dksX1_move_0 13 rfl rfl)
theorem dX1_move_14 : decode cX1_move 14 = .ok (.dup, 1) := dk_89 (dk_at dksX1_move_0 14 rfl rfl)
theorem dX1_move_15 : decode cX1_move 15 = .ok (.iconst 2, 1) := dk_5 (dk_at dksX1_move_0 15 rfl rfl)
theorem dX1_move_16 : decode cX1_move 16 = .ok (.iload_n 3, 1) := dk_29 (dk_at dksX1_move_0 16 rfl rfl)
theorem dX1_move_17 : decode cX1_move 17 = .ok (.iastore, 1) := dk_79 (dk_at dksX1_move_0 17 rfl rfl)
theorem dX1_move_18 : decode cX1_move 18 = .ok (.invokevirtual 114, 3) := dk_182 0 114 (dk_at dksX1_move_0 18 rfl rfl)
theorem dX1_move_21 : decode cX1_move 21 = .ok (.ireturn, 1) := dk_172 (dk_at dksX1_move_0 21 rfl rfl)
abbrev cX1_weigh : ByteArray := prog_1_method_17_code
def yX1_weigh : MethodName := ⟨RX1, "weigh", "(II)I"⟩
def dkwX1_weigh_0 : List UInt8 := [42, 18, 126, 5, 188, 10, 89, 3, 27, 79, 89, 4, 28, 79, 182, 0, 114, 172]
abbrev dktX1_weigh_0 : List UInt8 := dkwX1_weigh_0 ++ []
theorem dksX1_weigh_0 : cX1_weigh.data.toList.drop 0 = dktX1_weigh_0 := by decide +kernel
theorem dX1_weigh_0 : decode cX1_weigh 0 = .ok (.aload_n 0, 1) := dk_42 (dk_at dksX1_weigh_0 0 rfl rfl)
theorem dX1_weigh_1 : decode cX1_weigh 1 = .ok (.ldc 126, 2) := dk_18 126 (dk_at dksX1_weigh_0 1 rfl rfl)
theorem dX1_weigh_3 : decode cX1_weigh 3 = .ok (.iconst 2, 1) := dk_5 (dk_at dksX1_weigh_0 3 rfl rfl)
theorem dX1_weigh_4 : decode cX1_weigh 4 = .ok (.newarray .int, 2) := dk_188_10 (dk_at dksX1_weigh_0 4 rfl rfl)
theorem dX1_weigh_6 : decode cX1_weigh 6 = .ok (.dup, 1) := dk_89 (dk_at dksX1_weigh_0 6 rfl rfl)
theorem dX1_weigh_7 : decode cX1_weigh 7 = .ok (.iconst 0, 1) := dk_3 (dk_at dksX1_weigh_0 7 rfl rfl)
theorem dX1_weigh_8 : decode cX1_weigh 8 = .ok (.iload_n 1, 1) := dk_27 (dk_at dksX1_weigh_0 8 rfl rfl)
theorem dX1_weigh_9 : decode cX1_weigh 9 = .ok (.iastore, 1) := dk_79 (dk_at dksX1_weigh_0 9 rfl rfl)
theorem dX1_weigh_10 : decode cX1_weigh 10 = .ok (.dup, 1) := dk_89 (dk_at dksX1_weigh_0 10 rfl rfl)
theorem dX1_weigh_11 : decode cX1_weigh 11 = .ok (.iconst 1, 1) := dk_4 (dk_at dksX1_weigh_0 11 rfl rfl)
theorem dX1_weigh_12 : decode cX1_weigh 12 = .ok (.iload_n 2, 1) := dk_28 (dk_at dksX1_weigh_0 12 rfl rfl)
theorem dX1_weigh_13 : decode cX1_weigh 13 = .ok (.iastore, 1) := dk_79 (dk_at dksX1_weigh_0 13 rfl rfl)
theorem dX1_weigh_14 : decode cX1_weigh 14 = .ok (.invokevirtual 114, 3) := dk_182 0 114 (dk_at dksX1_weigh_0 14 rfl rfl)
theorem dX1_weigh_17 : decode cX1_weigh 17 = .ok (.ireturn, 1) := dk_172 (dk_at dksX1_weigh_0 17 rfl rfl)
abbrev cX1_sheepOf : ByteArray := prog_1_method_18_code
def yX1_sheepOf : MethodName := ⟨RX1, "sheepOf", "(II)I"⟩
def dkwX1_sheepOf_4 : List UInt8 := [153, 0, 7, 4, 167, 0, 4, 3, 172, 187, 0, 1, 89, 183, 0, 3, 191]
abbrev dktX1_sheepOf_4 : List UInt8 := dkwX1_sheepOf_4 ++ []
def dkwX1_sheepOf_3 : List UInt8 := [45, 182, 0, 144, 172, 42, 180, 0, 37, 45, 182, 0, 148, 172, 42, 180, 0, 37, 45, 182, 0, 152]
abbrev dktX1_sheepOf_3 : List UInt8 := dkwX1_sheepOf_3 ++ dktX1_sheepOf_4
def dkwX1_sheepOf_2 : List UInt8 := [45, 180, 0, 131, 172, 45, 180, 0, 136, 172, 45, 180, 0, 139, 172, 45, 180, 0, 142, 172, 42, 180, 0, 37]
abbrev dktX1_sheepOf_2 : List UInt8 := dkwX1_sheepOf_2 ++ dktX1_sheepOf_3
def dkwX1_sheepOf_1 : List UInt8 := [170, 0, 0, 0, 0, 97, 0, 0, 0, 0, 0, 0, 0, 6, 0, 0, 0, 42, 0, 0, 0, 47, 0, 0, 0, 52, 0, 0, 0, 57, 0, 0, 0, 62, 0, 0, 0, 71, 0, 0, 0, 80]
abbrev dktX1_sheepOf_1 : List UInt8 := dkwX1_sheepOf_1 ++ dktX1_sheepOf_2
def dkwX1_sheepOf_0 : List UInt8 := [42, 180, 0, 37, 27, 182, 0, 128, 78, 28]
abbrev dktX1_sheepOf_0 : List UInt8 := dkwX1_sheepOf_0 ++ dktX1_sheepOf_1
theorem dksX1_sheepOf_0 : cX1_sheepOf.data.toList.drop 0 = dktX1_sheepOf_0 := by decide +kernel
theorem dksX1_sheepOf_1 : cX1_sheepOf.data.toList.drop 10 = dktX1_sheepOf_1 := dk_seg dksX1_sheepOf_0 10 rfl rfl
theorem dksX1_sheepOf_2 : cX1_sheepOf.data.toList.drop 52 = dktX1_sheepOf_2 := dk_seg dksX1_sheepOf_1 42 rfl rfl
theorem dksX1_sheepOf_3 : cX1_sheepOf.data.toList.drop 76 = dktX1_sheepOf_3 := dk_seg dksX1_sheepOf_2 24 rfl rfl
theorem dksX1_sheepOf_4 : cX1_sheepOf.data.toList.drop 98 = dktX1_sheepOf_4 := dk_seg dksX1_sheepOf_3 22 rfl rfl
theorem dX1_sheepOf_0 : decode cX1_sheepOf 0 = .ok (.aload_n 0, 1) := dk_42 (dk_at dksX1_sheepOf_0 0 rfl rfl)
theorem dX1_sheepOf_1 : decode cX1_sheepOf 1 = .ok (.getfield 37, 3) := dk_180 0 37 (dk_at dksX1_sheepOf_0 1 rfl rfl)
theorem dX1_sheepOf_4 : decode cX1_sheepOf 4 = .ok (.iload_n 1, 1) := dk_27 (dk_at dksX1_sheepOf_0 4 rfl rfl)
theorem dX1_sheepOf_5 : decode cX1_sheepOf 5 = .ok (.invokevirtual 128, 3) := dk_182 0 128 (dk_at dksX1_sheepOf_0 5 rfl rfl)
theorem dX1_sheepOf_8 : decode cX1_sheepOf 8 = .ok (.astore_n 3, 1) := dk_78 (dk_at dksX1_sheepOf_0 8 rfl rfl)
theorem dX1_sheepOf_9 : decode cX1_sheepOf 9 = .ok (.iload_n 2, 1) := dk_28 (dk_at dksX1_sheepOf_0 9 rfl rfl)
theorem dX1_sheepOf_10 : decode cX1_sheepOf 10 = .ok (.tableswitch 97 0 6 #[42, 47, 52, 57, 62, 71, 80], 42) := by decide +kernel
theorem dX1_sheepOf_52 : decode cX1_sheepOf 52 = .ok (.aload_n 3, 1) := dk_45 (dk_at dksX1_sheepOf_2 0 rfl rfl)
theorem dX1_sheepOf_53 : decode cX1_sheepOf 53 = .ok (.getfield 131, 3) := dk_180 0 131 (dk_at dksX1_sheepOf_2 1 rfl rfl)
theorem dX1_sheepOf_56 : decode cX1_sheepOf 56 = .ok (.ireturn, 1) := dk_172 (dk_at dksX1_sheepOf_2 4 rfl rfl)
theorem dX1_sheepOf_57 : decode cX1_sheepOf 57 = .ok (.aload_n 3, 1) := dk_45 (dk_at dksX1_sheepOf_2 5 rfl rfl)
theorem dX1_sheepOf_58 : decode cX1_sheepOf 58 = .ok (.getfield 136, 3) := dk_180 0 136 (dk_at dksX1_sheepOf_2 6 rfl rfl)
theorem dX1_sheepOf_61 : decode cX1_sheepOf 61 = .ok (.ireturn, 1) := dk_172 (dk_at dksX1_sheepOf_2 9 rfl rfl)
theorem dX1_sheepOf_62 : decode cX1_sheepOf 62 = .ok (.aload_n 3, 1) := dk_45 (dk_at dksX1_sheepOf_2 10 rfl rfl)
theorem dX1_sheepOf_63 : decode cX1_sheepOf 63 = .ok (.getfield 139, 3) := dk_180 0 139 (dk_at dksX1_sheepOf_2 11 rfl rfl)
theorem dX1_sheepOf_66 : decode cX1_sheepOf 66 = .ok (.ireturn, 1) := dk_172 (dk_at dksX1_sheepOf_2 14 rfl rfl)
theorem dX1_sheepOf_67 : decode cX1_sheepOf 67 = .ok (.aload_n 3, 1) := dk_45 (dk_at dksX1_sheepOf_2 15 rfl rfl)
theorem dX1_sheepOf_68 : decode cX1_sheepOf 68 = .ok (.getfield 142, 3) := dk_180 0 142 (dk_at dksX1_sheepOf_2 16 rfl rfl)
theorem dX1_sheepOf_71 : decode cX1_sheepOf 71 = .ok (.ireturn, 1) := dk_172 (dk_at dksX1_sheepOf_2 19 rfl rfl)
theorem dX1_sheepOf_72 : decode cX1_sheepOf 72 = .ok (.aload_n 0, 1) := dk_42 (dk_at dksX1_sheepOf_2 20 rfl rfl)
theorem dX1_sheepOf_73 : decode cX1_sheepOf 73 = .ok (.getfield 37, 3) := dk_180 0 37 (dk_at dksX1_sheepOf_2 21 rfl rfl)
theorem dX1_sheepOf_76 : decode cX1_sheepOf 76 = .ok (.aload_n 3, 1) := dk_45 (dk_at dksX1_sheepOf_3 0 rfl rfl)
theorem dX1_sheepOf_77 : decode cX1_sheepOf 77 = .ok (.invokevirtual 144, 3) := dk_182 0 144 (dk_at dksX1_sheepOf_3 1 rfl rfl)
theorem dX1_sheepOf_80 : decode cX1_sheepOf 80 = .ok (.ireturn, 1) := dk_172 (dk_at dksX1_sheepOf_3 4 rfl rfl)
theorem dX1_sheepOf_81 : decode cX1_sheepOf 81 = .ok (.aload_n 0, 1) := dk_42 (dk_at dksX1_sheepOf_3 5 rfl rfl)
theorem dX1_sheepOf_82 : decode cX1_sheepOf 82 = .ok (.getfield 37, 3) := dk_180 0 37 (dk_at dksX1_sheepOf_3 6 rfl rfl)
theorem dX1_sheepOf_85 : decode cX1_sheepOf 85 = .ok (.aload_n 3, 1) := dk_45 (dk_at dksX1_sheepOf_3 9 rfl rfl)
theorem dX1_sheepOf_86 : decode cX1_sheepOf 86 = .ok (.invokevirtual 148, 3) := dk_182 0 148 (dk_at dksX1_sheepOf_3 10 rfl rfl)
theorem dX1_sheepOf_89 : decode cX1_sheepOf 89 = .ok (.ireturn, 1) := dk_172 (dk_at dksX1_sheepOf_3 13 rfl rfl)
theorem dX1_sheepOf_90 : decode cX1_sheepOf 90 = .ok (.aload_n 0, 1) := dk_42 (dk_at dksX1_sheepOf_3 14 rfl rfl)
theorem dX1_sheepOf_91 : decode cX1_sheepOf 91 = .ok (.getfield 37, 3) := dk_180 0 37 (dk_at dksX1_sheepOf_3 15 rfl rfl)
theorem dX1_sheepOf_94 : decode cX1_sheepOf 94 = .ok (.aload_n 3, 1) := dk_45 (dk_at dksX1_sheepOf_3 18 rfl rfl)
theorem dX1_sheepOf_95 : decode cX1_sheepOf 95 = .ok (.invokevirtual 152, 3) := dk_182 0 152 (dk_at dksX1_sheepOf_3 19 rfl rfl)
theorem dX1_sheepOf_98 : decode cX1_sheepOf 98 = .ok (.ifCond .eq 7, 3) := dk_153 0 7 (dk_at dksX1_sheepOf_4 0 rfl rfl)
theorem dX1_sheepOf_101 : decode cX1_sheepOf 101 = .ok (.iconst 1, 1) := dk_4 (dk_at dksX1_sheepOf_4 3 rfl rfl)
theorem dX1_sheepOf_102 : decode cX1_sheepOf 102 = .ok (.goto 4, 3) := dk_167 0 4 (dk_at dksX1_sheepOf_4 4 rfl rfl)
theorem dX1_sheepOf_105 : decode cX1_sheepOf 105 = .ok (.iconst 0, 1) := dk_3 (dk_at dksX1_sheepOf_4 7 rfl rfl)
theorem dX1_sheepOf_106 : decode cX1_sheepOf 106 = .ok (.ireturn, 1) := dk_172 (dk_at dksX1_sheepOf_4 8 rfl rfl)
theorem dX1_sheepOf_107 : decode cX1_sheepOf 107 = .ok (.new 1, 3) := dk_187 0 1 (dk_at dksX1_sheepOf_4 9 rfl rfl)
theorem dX1_sheepOf_110 : decode cX1_sheepOf 110 = .ok (.dup, 1) := dk_89 (dk_at dksX1_sheepOf_4 12 rfl rfl)
theorem dX1_sheepOf_111 : decode cX1_sheepOf 111 = .ok (.invokespecial 3, 3) := dk_183 0 3 (dk_at dksX1_sheepOf_4 13 rfl rfl)
theorem dX1_sheepOf_114 : decode cX1_sheepOf 114 = .ok (.athrow, 1) := dk_191 (dk_at dksX1_sheepOf_4 16 rfl rfl)
abbrev cX1_hutOf : ByteArray := prog_1_method_20_code
def yX1_hutOf : MethodName := ⟨RX1, "hutOf", "(II)I"⟩
def dkwX1_hutOf_5 : List UInt8 := [182, 0, 197, 172, 187, 0, 1, 89, 183, 0, 3, 191]
abbrev dktX1_hutOf_5 : List UInt8 := dkwX1_hutOf_5 ++ []
def dkwX1_hutOf_4 : List UInt8 := [45, 182, 0, 186, 172, 42, 180, 0, 37, 180, 0, 103, 45, 182, 0, 189, 182, 0, 193, 172, 42, 27]
abbrev dktX1_hutOf_4 : List UInt8 := dkwX1_hutOf_4 ++ dktX1_hutOf_5
def dkwX1_hutOf_3 : List UInt8 := [180, 0, 168, 27, 182, 0, 171, 192, 0, 175, 180, 0, 178, 172, 45, 182, 0, 179, 172, 45, 182, 0, 184, 172]
abbrev dktX1_hutOf_3 : List UInt8 := dkwX1_hutOf_3 ++ dktX1_hutOf_4
def dkwX1_hutOf_2 : List UInt8 := [42, 180, 0, 37, 180, 0, 168, 27, 182, 0, 171, 192, 0, 175, 180, 0, 177, 172, 42, 180, 0, 37]
abbrev dktX1_hutOf_2 : List UInt8 := dkwX1_hutOf_2 ++ dktX1_hutOf_3
def dkwX1_hutOf_1 : List UInt8 := [170, 0, 0, 0, 0, 114, 0, 0, 0, 0, 0, 0, 0, 6, 0, 0, 0, 42, 0, 0, 0, 60, 0, 0, 0, 78, 0, 0, 0, 83, 0, 0, 0, 88, 0, 0, 0, 93, 0, 0, 0, 108]
abbrev dktX1_hutOf_1 : List UInt8 := dkwX1_hutOf_1 ++ dktX1_hutOf_2
def dkwX1_hutOf_0 : List UInt8 := [42, 180, 0, 37, 27, 182, 0, 160, 42, 180, 0, 37, 27, 182, 0, 164, 78, 28]
abbrev dktX1_hutOf_0 : List UInt8 := dkwX1_hutOf_0 ++ dktX1_hutOf_1
theorem dksX1_hutOf_0 : cX1_hutOf.data.toList.drop 0 = dktX1_hutOf_0 := by decide +kernel
theorem dksX1_hutOf_1 : cX1_hutOf.data.toList.drop 18 = dktX1_hutOf_1 := dk_seg dksX1_hutOf_0 18 rfl rfl
theorem dksX1_hutOf_2 : cX1_hutOf.data.toList.drop 60 = dktX1_hutOf_2 := dk_seg dksX1_hutOf_1 42 rfl rfl
theorem dksX1_hutOf_3 : cX1_hutOf.data.toList.drop 82 = dktX1_hutOf_3 := dk_seg dksX1_hutOf_2 22 rfl rfl
theorem dksX1_hutOf_4 : cX1_hutOf.data.toList.drop 106 = dktX1_hutOf_4 := dk_seg dksX1_hutOf_3 24 rfl rfl
theorem dksX1_hutOf_5 : cX1_hutOf.data.toList.drop 128 = dktX1_hutOf_5 := dk_seg dksX1_hutOf_4 22 rfl rfl
theorem dX1_hutOf_0 : decode cX1_hutOf 0 = .ok (.aload_n 0, 1) := dk_42 (dk_at dksX1_hutOf_0 0 rfl rfl)
theorem dX1_hutOf_1 : decode cX1_hutOf 1 = .ok (.getfield 37, 3) := dk_180 0 37 (dk_at dksX1_hutOf_0 1 rfl rfl)
theorem dX1_hutOf_4 : decode cX1_hutOf 4 = .ok (.iload_n 1, 1) := dk_27 (dk_at dksX1_hutOf_0 4 rfl rfl)
theorem dX1_hutOf_5 : decode cX1_hutOf 5 = .ok (.invokevirtual 160, 3) := dk_182 0 160 (dk_at dksX1_hutOf_0 5 rfl rfl)
theorem dX1_hutOf_8 : decode cX1_hutOf 8 = .ok (.aload_n 0, 1) := dk_42 (dk_at dksX1_hutOf_0 8 rfl rfl)
theorem dX1_hutOf_9 : decode cX1_hutOf 9 = .ok (.getfield 37, 3) := dk_180 0 37 (dk_at dksX1_hutOf_0 9 rfl rfl)
theorem dX1_hutOf_12 : decode cX1_hutOf 12 = .ok (.iload_n 1, 1) := dk_27 (dk_at dksX1_hutOf_0 12 rfl rfl)
theorem dX1_hutOf_13 : decode cX1_hutOf 13 = .ok (.invokevirtual 164, 3) := dk_182 0 164 (dk_at dksX1_hutOf_0 13 rfl rfl)
theorem dX1_hutOf_16 : decode cX1_hutOf 16 = .ok (.astore_n 3, 1) := dk_78 (dk_at dksX1_hutOf_0 16 rfl rfl)
theorem dX1_hutOf_17 : decode cX1_hutOf 17 = .ok (.iload_n 2, 1) := dk_28 (dk_at dksX1_hutOf_0 17 rfl rfl)
theorem dX1_hutOf_18 : decode cX1_hutOf 18 = .ok (.tableswitch 114 0 6 #[42, 60, 78, 83, 88, 93, 108], 42) := by decide +kernel
theorem dX1_hutOf_60 : decode cX1_hutOf 60 = .ok (.aload_n 0, 1) := dk_42 (dk_at dksX1_hutOf_2 0 rfl rfl)
theorem dX1_hutOf_61 : decode cX1_hutOf 61 = .ok (.getfield 37, 3) := dk_180 0 37 (dk_at dksX1_hutOf_2 1 rfl rfl)
theorem dX1_hutOf_64 : decode cX1_hutOf 64 = .ok (.getfield 168, 3) := dk_180 0 168 (dk_at dksX1_hutOf_2 4 rfl rfl)
theorem dX1_hutOf_67 : decode cX1_hutOf 67 = .ok (.iload_n 1, 1) := dk_27 (dk_at dksX1_hutOf_2 7 rfl rfl)
theorem dX1_hutOf_68 : decode cX1_hutOf 68 = .ok (.invokevirtual 171, 3) := dk_182 0 171 (dk_at dksX1_hutOf_2 8 rfl rfl)
theorem dX1_hutOf_71 : decode cX1_hutOf 71 = .ok (.checkcast 175, 3) := dk_192 0 175 (dk_at dksX1_hutOf_2 11 rfl rfl)
theorem dX1_hutOf_74 : decode cX1_hutOf 74 = .ok (.getfield 177, 3) := dk_180 0 177 (dk_at dksX1_hutOf_2 14 rfl rfl)
theorem dX1_hutOf_77 : decode cX1_hutOf 77 = .ok (.ireturn, 1) := dk_172 (dk_at dksX1_hutOf_2 17 rfl rfl)
theorem dX1_hutOf_78 : decode cX1_hutOf 78 = .ok (.aload_n 0, 1) := dk_42 (dk_at dksX1_hutOf_2 18 rfl rfl)
theorem dX1_hutOf_79 : decode cX1_hutOf 79 = .ok (.getfield 37, 3) := dk_180 0 37 (dk_at dksX1_hutOf_2 19 rfl rfl)
theorem dX1_hutOf_82 : decode cX1_hutOf 82 = .ok (.getfield 168, 3) := dk_180 0 168 (dk_at dksX1_hutOf_3 0 rfl rfl)
theorem dX1_hutOf_85 : decode cX1_hutOf 85 = .ok (.iload_n 1, 1) := dk_27 (dk_at dksX1_hutOf_3 3 rfl rfl)
theorem dX1_hutOf_86 : decode cX1_hutOf 86 = .ok (.invokevirtual 171, 3) := dk_182 0 171 (dk_at dksX1_hutOf_3 4 rfl rfl)
theorem dX1_hutOf_89 : decode cX1_hutOf 89 = .ok (.checkcast 175, 3) := dk_192 0 175 (dk_at dksX1_hutOf_3 7 rfl rfl)
theorem dX1_hutOf_92 : decode cX1_hutOf 92 = .ok (.getfield 178, 3) := dk_180 0 178 (dk_at dksX1_hutOf_3 10 rfl rfl)
theorem dX1_hutOf_95 : decode cX1_hutOf 95 = .ok (.ireturn, 1) := dk_172 (dk_at dksX1_hutOf_3 13 rfl rfl)
theorem dX1_hutOf_96 : decode cX1_hutOf 96 = .ok (.aload_n 3, 1) := dk_45 (dk_at dksX1_hutOf_3 14 rfl rfl)
theorem dX1_hutOf_97 : decode cX1_hutOf 97 = .ok (.invokevirtual 179, 3) := dk_182 0 179 (dk_at dksX1_hutOf_3 15 rfl rfl)
theorem dX1_hutOf_100 : decode cX1_hutOf 100 = .ok (.ireturn, 1) := dk_172 (dk_at dksX1_hutOf_3 18 rfl rfl)
theorem dX1_hutOf_101 : decode cX1_hutOf 101 = .ok (.aload_n 3, 1) := dk_45 (dk_at dksX1_hutOf_3 19 rfl rfl)
theorem dX1_hutOf_102 : decode cX1_hutOf 102 = .ok (.invokevirtual 184, 3) := dk_182 0 184 (dk_at dksX1_hutOf_3 20 rfl rfl)
theorem dX1_hutOf_105 : decode cX1_hutOf 105 = .ok (.ireturn, 1) := dk_172 (dk_at dksX1_hutOf_3 23 rfl rfl)
theorem dX1_hutOf_106 : decode cX1_hutOf 106 = .ok (.aload_n 3, 1) := dk_45 (dk_at dksX1_hutOf_4 0 rfl rfl)
theorem dX1_hutOf_107 : decode cX1_hutOf 107 = .ok (.invokevirtual 186, 3) := dk_182 0 186 (dk_at dksX1_hutOf_4 1 rfl rfl)
theorem dX1_hutOf_110 : decode cX1_hutOf 110 = .ok (.ireturn, 1) := dk_172 (dk_at dksX1_hutOf_4 4 rfl rfl)
theorem dX1_hutOf_111 : decode cX1_hutOf 111 = .ok (.aload_n 0, 1) := dk_42 (dk_at dksX1_hutOf_4 5 rfl rfl)
theorem dX1_hutOf_112 : decode cX1_hutOf 112 = .ok (.getfield 37, 3) := dk_180 0 37 (dk_at dksX1_hutOf_4 6 rfl rfl)
theorem dX1_hutOf_115 : decode cX1_hutOf 115 = .ok (.getfield 103, 3) := dk_180 0 103 (dk_at dksX1_hutOf_4 9 rfl rfl)
theorem dX1_hutOf_118 : decode cX1_hutOf 118 = .ok (.aload_n 3, 1) := dk_45 (dk_at dksX1_hutOf_4 12 rfl rfl)
theorem dX1_hutOf_119 : decode cX1_hutOf 119 = .ok (.invokevirtual 189, 3) := dk_182 0 189 (dk_at dksX1_hutOf_4 13 rfl rfl)
theorem dX1_hutOf_122 : decode cX1_hutOf 122 = .ok (.invokevirtual 193, 3) := dk_182 0 193 (dk_at dksX1_hutOf_4 16 rfl rfl)
theorem dX1_hutOf_125 : decode cX1_hutOf 125 = .ok (.ireturn, 1) := dk_172 (dk_at dksX1_hutOf_4 19 rfl rfl)
theorem dX1_hutOf_126 : decode cX1_hutOf 126 = .ok (.aload_n 0, 1) := dk_42 (dk_at dksX1_hutOf_4 20 rfl rfl)
theorem dX1_hutOf_127 : decode cX1_hutOf 127 = .ok (.iload_n 1, 1) := dk_27 (dk_at dksX1_hutOf_4 21 rfl rfl)
theorem dX1_hutOf_128 : decode cX1_hutOf 128 = .ok (.invokevirtual 197, 3) := dk_182 0 197 (dk_at dksX1_hutOf_5 0 rfl rfl)
theorem dX1_hutOf_131 : decode cX1_hutOf 131 = .ok (.ireturn, 1) := dk_172 (dk_at dksX1_hutOf_5 3 rfl rfl)
theorem dX1_hutOf_132 : decode cX1_hutOf 132 = .ok (.new 1, 3) := dk_187 0 1 (dk_at dksX1_hutOf_5 4 rfl rfl)
theorem dX1_hutOf_135 : decode cX1_hutOf 135 = .ok (.dup, 1) := dk_89 (dk_at dksX1_hutOf_5 7 rfl rfl)
theorem dX1_hutOf_136 : decode cX1_hutOf 136 = .ok (.invokespecial 3, 3) := dk_183 0 3 (dk_at dksX1_hutOf_5 8 rfl rfl)
theorem dX1_hutOf_139 : decode cX1_hutOf 139 = .ok (.athrow, 1) := dk_191 (dk_at dksX1_hutOf_5 11 rfl rfl)
abbrev cX1_dogsAt : ByteArray := prog_1_method_19_code
def yX1_dogsAt : MethodName := ⟨RX1, "dogsAt", "(I)I"⟩
def dkwX1_dogsAt_2 : List UInt8 := [167, 255, 226, 28, 172]
abbrev dktX1_dogsAt_2 : List UInt8 := dkwX1_dogsAt_2 ++ []
def dkwX1_dogsAt_1 : List UInt8 := [45, 21, 5, 46, 54, 6, 28, 21, 6, 27, 160, 0, 7, 4, 167, 0, 4, 3, 96, 61, 132, 5, 1]
abbrev dktX1_dogsAt_1 : List UInt8 := dkwX1_dogsAt_1 ++ dktX1_dogsAt_2
def dkwX1_dogsAt_0 : List UInt8 := [3, 61, 42, 180, 0, 37, 180, 0, 156, 78, 45, 190, 54, 4, 3, 54, 5, 21, 5, 21, 4, 162, 0, 29]
abbrev dktX1_dogsAt_0 : List UInt8 := dkwX1_dogsAt_0 ++ dktX1_dogsAt_1
theorem dksX1_dogsAt_0 : cX1_dogsAt.data.toList.drop 0 = dktX1_dogsAt_0 := by decide +kernel
theorem dksX1_dogsAt_1 : cX1_dogsAt.data.toList.drop 24 = dktX1_dogsAt_1 := dk_seg dksX1_dogsAt_0 24 rfl rfl
theorem dksX1_dogsAt_2 : cX1_dogsAt.data.toList.drop 47 = dktX1_dogsAt_2 := dk_seg dksX1_dogsAt_1 23 rfl rfl
theorem dX1_dogsAt_0 : decode cX1_dogsAt 0 = .ok (.iconst 0, 1) := dk_3 (dk_at dksX1_dogsAt_0 0 rfl rfl)
theorem dX1_dogsAt_1 : decode cX1_dogsAt 1 = .ok (.istore_n 2, 1) := dk_61 (dk_at dksX1_dogsAt_0 1 rfl rfl)
theorem dX1_dogsAt_2 : decode cX1_dogsAt 2 = .ok (.aload_n 0, 1) := dk_42 (dk_at dksX1_dogsAt_0 2 rfl rfl)
theorem dX1_dogsAt_3 : decode cX1_dogsAt 3 = .ok (.getfield 37, 3) := dk_180 0 37 (dk_at dksX1_dogsAt_0 3 rfl rfl)
theorem dX1_dogsAt_6 : decode cX1_dogsAt 6 = .ok (.getfield 156, 3) := dk_180 0 156 (dk_at dksX1_dogsAt_0 6 rfl rfl)
theorem dX1_dogsAt_9 : decode cX1_dogsAt 9 = .ok (.astore_n 3, 1) := dk_78 (dk_at dksX1_dogsAt_0 9 rfl rfl)
theorem dX1_dogsAt_10 : decode cX1_dogsAt 10 = .ok (.aload_n 3, 1) := dk_45 (dk_at dksX1_dogsAt_0 10 rfl rfl)
theorem dX1_dogsAt_11 : decode cX1_dogsAt 11 = .ok (.arraylength, 1) := dk_190 (dk_at dksX1_dogsAt_0 11 rfl rfl)
theorem dX1_dogsAt_12 : decode cX1_dogsAt 12 = .ok (.istore 4, 2) := dk_54 4 (dk_at dksX1_dogsAt_0 12 rfl rfl)
theorem dX1_dogsAt_14 : decode cX1_dogsAt 14 = .ok (.iconst 0, 1) := dk_3 (dk_at dksX1_dogsAt_0 14 rfl rfl)
theorem dX1_dogsAt_15 : decode cX1_dogsAt 15 = .ok (.istore 5, 2) := dk_54 5 (dk_at dksX1_dogsAt_0 15 rfl rfl)
theorem dX1_dogsAt_17 : decode cX1_dogsAt 17 = .ok (.iload 5, 2) := dk_21 5 (dk_at dksX1_dogsAt_0 17 rfl rfl)
theorem dX1_dogsAt_19 : decode cX1_dogsAt 19 = .ok (.iload 4, 2) := dk_21 4 (dk_at dksX1_dogsAt_0 19 rfl rfl)
theorem dX1_dogsAt_21 : decode cX1_dogsAt 21 = .ok (.if_icmp .ge 29, 3) := dk_162 0 29 (dk_at dksX1_dogsAt_0 21 rfl rfl)
theorem dX1_dogsAt_24 : decode cX1_dogsAt 24 = .ok (.aload_n 3, 1) := dk_45 (dk_at dksX1_dogsAt_1 0 rfl rfl)
theorem dX1_dogsAt_25 : decode cX1_dogsAt 25 = .ok (.iload 5, 2) := dk_21 5 (dk_at dksX1_dogsAt_1 1 rfl rfl)
theorem dX1_dogsAt_27 : decode cX1_dogsAt 27 = .ok (.iaload, 1) := dk_46 (dk_at dksX1_dogsAt_1 3 rfl rfl)
theorem dX1_dogsAt_28 : decode cX1_dogsAt 28 = .ok (.istore 6, 2) := dk_54 6 (dk_at dksX1_dogsAt_1 4 rfl rfl)
theorem dX1_dogsAt_30 : decode cX1_dogsAt 30 = .ok (.iload_n 2, 1) := dk_28 (dk_at dksX1_dogsAt_1 6 rfl rfl)
theorem dX1_dogsAt_31 : decode cX1_dogsAt 31 = .ok (.iload 6, 2) := dk_21 6 (dk_at dksX1_dogsAt_1 7 rfl rfl)
theorem dX1_dogsAt_33 : decode cX1_dogsAt 33 = .ok (.iload_n 1, 1) := dk_27 (dk_at dksX1_dogsAt_1 9 rfl rfl)
theorem dX1_dogsAt_34 : decode cX1_dogsAt 34 = .ok (.if_icmp .ne 7, 3) := dk_160 0 7 (dk_at dksX1_dogsAt_1 10 rfl rfl)
theorem dX1_dogsAt_37 : decode cX1_dogsAt 37 = .ok (.iconst 1, 1) := dk_4 (dk_at dksX1_dogsAt_1 13 rfl rfl)
theorem dX1_dogsAt_38 : decode cX1_dogsAt 38 = .ok (.goto 4, 3) := dk_167 0 4 (dk_at dksX1_dogsAt_1 14 rfl rfl)
theorem dX1_dogsAt_41 : decode cX1_dogsAt 41 = .ok (.iconst 0, 1) := dk_3 (dk_at dksX1_dogsAt_1 17 rfl rfl)
theorem dX1_dogsAt_42 : decode cX1_dogsAt 42 = .ok (.iadd, 1) := dk_96 (dk_at dksX1_dogsAt_1 18 rfl rfl)
theorem dX1_dogsAt_43 : decode cX1_dogsAt 43 = .ok (.istore_n 2, 1) := dk_61 (dk_at dksX1_dogsAt_1 19 rfl rfl)
theorem dX1_dogsAt_44 : decode cX1_dogsAt 44 = .ok (.iinc 5 1, 3) := dk_132 5 1 (dk_at dksX1_dogsAt_1 20 rfl rfl)
theorem dX1_dogsAt_47 : decode cX1_dogsAt 47 = .ok (.goto (-30), 3) := dk_167 255 226 (dk_at dksX1_dogsAt_2 0 rfl rfl)
theorem dX1_dogsAt_50 : decode cX1_dogsAt 50 = .ok (.iload_n 2, 1) := dk_28 (dk_at dksX1_dogsAt_2 3 rfl rfl)
theorem dX1_dogsAt_51 : decode cX1_dogsAt 51 = .ok (.ireturn, 1) := dk_172 (dk_at dksX1_dogsAt_2 4 rfl rfl)
abbrev cX1_round : ByteArray := prog_1_method_21_code
def yX1_round : MethodName := ⟨RX1, "round", "()I"⟩
def dkwX1_round_0 : List UInt8 := [42, 18, 201, 3, 188, 10, 182, 0, 114, 172]
abbrev dktX1_round_0 : List UInt8 := dkwX1_round_0 ++ []
theorem dksX1_round_0 : cX1_round.data.toList.drop 0 = dktX1_round_0 := by decide +kernel
theorem dX1_round_0 : decode cX1_round 0 = .ok (.aload_n 0, 1) := dk_42 (dk_at dksX1_round_0 0 rfl rfl)
theorem dX1_round_1 : decode cX1_round 1 = .ok (.ldc 201, 2) := dk_18 201 (dk_at dksX1_round_0 1 rfl rfl)
theorem dX1_round_3 : decode cX1_round 3 = .ok (.iconst 0, 1) := dk_3 (dk_at dksX1_round_0 3 rfl rfl)
theorem dX1_round_4 : decode cX1_round 4 = .ok (.newarray .int, 2) := dk_188_10 (dk_at dksX1_round_0 4 rfl rfl)
theorem dX1_round_6 : decode cX1_round 6 = .ok (.invokevirtual 114, 3) := dk_182 0 114 (dk_at dksX1_round_0 6 rfl rfl)
theorem dX1_round_9 : decode cX1_round 9 = .ok (.ireturn, 1) := dk_172 (dk_at dksX1_round_0 9 rfl rfl)
abbrev cX1_settle : ByteArray := prog_1_method_22_code
def yX1_settle : MethodName := ⟨RX1, "settle", "(I)I"⟩
def dkwX1_settle_0 : List UInt8 := [42, 18, 203, 4, 188, 10, 89, 3, 27, 79, 182, 0, 114, 172]
abbrev dktX1_settle_0 : List UInt8 := dkwX1_settle_0 ++ []
theorem dksX1_settle_0 : cX1_settle.data.toList.drop 0 = dktX1_settle_0 := by decide +kernel
theorem dX1_settle_0 : decode cX1_settle 0 = .ok (.aload_n 0, 1) := dk_42 (dk_at dksX1_settle_0 0 rfl rfl)
theorem dX1_settle_1 : decode cX1_settle 1 = .ok (.ldc 203, 2) := dk_18 203 (dk_at dksX1_settle_0 1 rfl rfl)
theorem dX1_settle_3 : decode cX1_settle 3 = .ok (.iconst 1, 1) := dk_4 (dk_at dksX1_settle_0 3 rfl rfl)
theorem dX1_settle_4 : decode cX1_settle 4 = .ok (.newarray .int, 2) := dk_188_10 (dk_at dksX1_settle_0 4 rfl rfl)
theorem dX1_settle_6 : decode cX1_settle 6 = .ok (.dup, 1) := dk_89 (dk_at dksX1_settle_0 6 rfl rfl)
theorem dX1_settle_7 : decode cX1_settle 7 = .ok (.iconst 0, 1) := dk_3 (dk_at dksX1_settle_0 7 rfl rfl)
theorem dX1_settle_8 : decode cX1_settle 8 = .ok (.iload_n 1, 1) := dk_27 (dk_at dksX1_settle_0 8 rfl rfl)
theorem dX1_settle_9 : decode cX1_settle 9 = .ok (.iastore, 1) := dk_79 (dk_at dksX1_settle_0 9 rfl rfl)
theorem dX1_settle_10 : decode cX1_settle 10 = .ok (.invokevirtual 114, 3) := dk_182 0 114 (dk_at dksX1_settle_0 10 rfl rfl)
theorem dX1_settle_13 : decode cX1_settle 13 = .ok (.ireturn, 1) := dk_172 (dk_at dksX1_settle_0 13 rfl rfl)
abbrev cX1_spreadAfter : ByteArray := prog_1_method_26_code
def yX1_spreadAfter : MethodName := ⟨RX1, "spreadAfter", "(I)I"⟩
def dkwX1_spreadAfter_0 : List UInt8 := [27, 133, 9, 20, 0, 216, 184, 0, 23, 184, 0, 27, 42, 180, 0, 37, 27, 182, 0, 218, 172]
abbrev dktX1_spreadAfter_0 : List UInt8 := dkwX1_spreadAfter_0 ++ []
theorem dksX1_spreadAfter_0 : cX1_spreadAfter.data.toList.drop 0 = dktX1_spreadAfter_0 := by decide +kernel
theorem dX1_spreadAfter_0 : decode cX1_spreadAfter 0 = .ok (.iload_n 1, 1) := dk_27 (dk_at dksX1_spreadAfter_0 0 rfl rfl)
theorem dX1_spreadAfter_1 : decode cX1_spreadAfter 1 = .ok (.i2l, 1) := dk_133 (dk_at dksX1_spreadAfter_0 1 rfl rfl)
theorem dX1_spreadAfter_2 : decode cX1_spreadAfter 2 = .ok (.lconst 0, 1) := dk_9 (dk_at dksX1_spreadAfter_0 2 rfl rfl)
theorem dX1_spreadAfter_3 : decode cX1_spreadAfter 3 = .ok (.ldc2_w 216, 3) := dk_20 0 216 (dk_at dksX1_spreadAfter_0 3 rfl rfl)
theorem dX1_spreadAfter_6 : decode cX1_spreadAfter 6 = .ok (.invokestatic 23, 3) := dk_184 0 23 (dk_at dksX1_spreadAfter_0 6 rfl rfl)
theorem dX1_spreadAfter_9 : decode cX1_spreadAfter 9 = .ok (.invokestatic 27, 3) := dk_184 0 27 (dk_at dksX1_spreadAfter_0 9 rfl rfl)
theorem dX1_spreadAfter_12 : decode cX1_spreadAfter 12 = .ok (.aload_n 0, 1) := dk_42 (dk_at dksX1_spreadAfter_0 12 rfl rfl)
theorem dX1_spreadAfter_13 : decode cX1_spreadAfter 13 = .ok (.getfield 37, 3) := dk_180 0 37 (dk_at dksX1_spreadAfter_0 13 rfl rfl)
theorem dX1_spreadAfter_16 : decode cX1_spreadAfter 16 = .ok (.iload_n 1, 1) := dk_27 (dk_at dksX1_spreadAfter_0 16 rfl rfl)
theorem dX1_spreadAfter_17 : decode cX1_spreadAfter 17 = .ok (.invokevirtual 218, 3) := dk_182 0 218 (dk_at dksX1_spreadAfter_0 17 rfl rfl)
theorem dX1_spreadAfter_20 : decode cX1_spreadAfter 20 = .ok (.ireturn, 1) := dk_172 (dk_at dksX1_spreadAfter_0 20 rfl rfl)
abbrev cX1_spreadWith : ByteArray := prog_1_method_27_code
def yX1_spreadWith : MethodName := ⟨RX1, "spreadWith", "(II)I"⟩
def dkwX1_spreadWith_1 : List UInt8 := [182, 0, 231, 172]
abbrev dktX1_spreadWith_1 : List UInt8 := dkwX1_spreadWith_1 ++ []
def dkwX1_spreadWith_0 : List UInt8 := [5, 188, 10, 89, 3, 27, 79, 89, 4, 28, 79, 184, 0, 221, 42, 180, 0, 37, 27, 28, 184, 0, 225]
abbrev dktX1_spreadWith_0 : List UInt8 := dkwX1_spreadWith_0 ++ dktX1_spreadWith_1
theorem dksX1_spreadWith_0 : cX1_spreadWith.data.toList.drop 0 = dktX1_spreadWith_0 := by decide +kernel
theorem dksX1_spreadWith_1 : cX1_spreadWith.data.toList.drop 23 = dktX1_spreadWith_1 := dk_seg dksX1_spreadWith_0 23 rfl rfl
theorem dX1_spreadWith_0 : decode cX1_spreadWith 0 = .ok (.iconst 2, 1) := dk_5 (dk_at dksX1_spreadWith_0 0 rfl rfl)
theorem dX1_spreadWith_1 : decode cX1_spreadWith 1 = .ok (.newarray .int, 2) := dk_188_10 (dk_at dksX1_spreadWith_0 1 rfl rfl)
theorem dX1_spreadWith_3 : decode cX1_spreadWith 3 = .ok (.dup, 1) := dk_89 (dk_at dksX1_spreadWith_0 3 rfl rfl)
theorem dX1_spreadWith_4 : decode cX1_spreadWith 4 = .ok (.iconst 0, 1) := dk_3 (dk_at dksX1_spreadWith_0 4 rfl rfl)
theorem dX1_spreadWith_5 : decode cX1_spreadWith 5 = .ok (.iload_n 1, 1) := dk_27 (dk_at dksX1_spreadWith_0 5 rfl rfl)
theorem dX1_spreadWith_6 : decode cX1_spreadWith 6 = .ok (.iastore, 1) := dk_79 (dk_at dksX1_spreadWith_0 6 rfl rfl)
theorem dX1_spreadWith_7 : decode cX1_spreadWith 7 = .ok (.dup, 1) := dk_89 (dk_at dksX1_spreadWith_0 7 rfl rfl)
theorem dX1_spreadWith_8 : decode cX1_spreadWith 8 = .ok (.iconst 1, 1) := dk_4 (dk_at dksX1_spreadWith_0 8 rfl rfl)
theorem dX1_spreadWith_9 : decode cX1_spreadWith 9 = .ok (.iload_n 2, 1) := dk_28 (dk_at dksX1_spreadWith_0 9 rfl rfl)
theorem dX1_spreadWith_10 : decode cX1_spreadWith 10 = .ok (.iastore, 1) := dk_79 (dk_at dksX1_spreadWith_0 10 rfl rfl)
theorem dX1_spreadWith_11 : decode cX1_spreadWith 11 = .ok (.invokestatic 221, 3) := dk_184 0 221 (dk_at dksX1_spreadWith_0 11 rfl rfl)
theorem dX1_spreadWith_14 : decode cX1_spreadWith 14 = .ok (.aload_n 0, 1) := dk_42 (dk_at dksX1_spreadWith_0 14 rfl rfl)
theorem dX1_spreadWith_15 : decode cX1_spreadWith 15 = .ok (.getfield 37, 3) := dk_180 0 37 (dk_at dksX1_spreadWith_0 15 rfl rfl)
theorem dX1_spreadWith_18 : decode cX1_spreadWith 18 = .ok (.iload_n 1, 1) := dk_27 (dk_at dksX1_spreadWith_0 18 rfl rfl)
theorem dX1_spreadWith_19 : decode cX1_spreadWith 19 = .ok (.iload_n 2, 1) := dk_28 (dk_at dksX1_spreadWith_0 19 rfl rfl)
theorem dX1_spreadWith_20 : decode cX1_spreadWith 20 = .ok (.invokestatic 225, 3) := dk_184 0 225 (dk_at dksX1_spreadWith_0 20 rfl rfl)
theorem dX1_spreadWith_23 : decode cX1_spreadWith 23 = .ok (.invokevirtual 231, 3) := dk_182 0 231 (dk_at dksX1_spreadWith_1 0 rfl rfl)
theorem dX1_spreadWith_26 : decode cX1_spreadWith 26 = .ok (.ireturn, 1) := dk_172 (dk_at dksX1_spreadWith_1 3 rfl rfl)
abbrev cX1_nearest : ByteArray := prog_1_method_28_code
def yX1_nearest : MethodName := ⟨RX1, "nearest", "(II)I"⟩
def dkwX1_nearest_1 : List UInt8 := [182, 0, 148, 62, 29, 2, 159, 0, 7, 4, 167, 0, 4, 3, 184, 0, 234, 29, 172]
abbrev dktX1_nearest_1 : List UInt8 := dkwX1_nearest_1 ++ []
def dkwX1_nearest_0 : List UInt8 := [5, 188, 10, 89, 3, 27, 79, 89, 4, 28, 79, 184, 0, 221, 42, 180, 0, 37, 27, 28, 184, 0, 225]
abbrev dktX1_nearest_0 : List UInt8 := dkwX1_nearest_0 ++ dktX1_nearest_1
theorem dksX1_nearest_0 : cX1_nearest.data.toList.drop 0 = dktX1_nearest_0 := by decide +kernel
theorem dksX1_nearest_1 : cX1_nearest.data.toList.drop 23 = dktX1_nearest_1 := dk_seg dksX1_nearest_0 23 rfl rfl
theorem dX1_nearest_0 : decode cX1_nearest 0 = .ok (.iconst 2, 1) := dk_5 (dk_at dksX1_nearest_0 0 rfl rfl)
theorem dX1_nearest_1 : decode cX1_nearest 1 = .ok (.newarray .int, 2) := dk_188_10 (dk_at dksX1_nearest_0 1 rfl rfl)
theorem dX1_nearest_3 : decode cX1_nearest 3 = .ok (.dup, 1) := dk_89 (dk_at dksX1_nearest_0 3 rfl rfl)
theorem dX1_nearest_4 : decode cX1_nearest 4 = .ok (.iconst 0, 1) := dk_3 (dk_at dksX1_nearest_0 4 rfl rfl)
theorem dX1_nearest_5 : decode cX1_nearest 5 = .ok (.iload_n 1, 1) := dk_27 (dk_at dksX1_nearest_0 5 rfl rfl)
theorem dX1_nearest_6 : decode cX1_nearest 6 = .ok (.iastore, 1) := dk_79 (dk_at dksX1_nearest_0 6 rfl rfl)
theorem dX1_nearest_7 : decode cX1_nearest 7 = .ok (.dup, 1) := dk_89 (dk_at dksX1_nearest_0 7 rfl rfl)
theorem dX1_nearest_8 : decode cX1_nearest 8 = .ok (.iconst 1, 1) := dk_4 (dk_at dksX1_nearest_0 8 rfl rfl)
theorem dX1_nearest_9 : decode cX1_nearest 9 = .ok (.iload_n 2, 1) := dk_28 (dk_at dksX1_nearest_0 9 rfl rfl)
theorem dX1_nearest_10 : decode cX1_nearest 10 = .ok (.iastore, 1) := dk_79 (dk_at dksX1_nearest_0 10 rfl rfl)
theorem dX1_nearest_11 : decode cX1_nearest 11 = .ok (.invokestatic 221, 3) := dk_184 0 221 (dk_at dksX1_nearest_0 11 rfl rfl)
theorem dX1_nearest_14 : decode cX1_nearest 14 = .ok (.aload_n 0, 1) := dk_42 (dk_at dksX1_nearest_0 14 rfl rfl)
theorem dX1_nearest_15 : decode cX1_nearest 15 = .ok (.getfield 37, 3) := dk_180 0 37 (dk_at dksX1_nearest_0 15 rfl rfl)
theorem dX1_nearest_18 : decode cX1_nearest 18 = .ok (.iload_n 1, 1) := dk_27 (dk_at dksX1_nearest_0 18 rfl rfl)
theorem dX1_nearest_19 : decode cX1_nearest 19 = .ok (.iload_n 2, 1) := dk_28 (dk_at dksX1_nearest_0 19 rfl rfl)
theorem dX1_nearest_20 : decode cX1_nearest 20 = .ok (.invokestatic 225, 3) := dk_184 0 225 (dk_at dksX1_nearest_0 20 rfl rfl)
theorem dX1_nearest_23 : decode cX1_nearest 23 = .ok (.invokevirtual 148, 3) := dk_182 0 148 (dk_at dksX1_nearest_1 0 rfl rfl)
theorem dX1_nearest_26 : decode cX1_nearest 26 = .ok (.istore_n 3, 1) := dk_62 (dk_at dksX1_nearest_1 3 rfl rfl)
theorem dX1_nearest_27 : decode cX1_nearest 27 = .ok (.iload_n 3, 1) := dk_29 (dk_at dksX1_nearest_1 4 rfl rfl)
theorem dX1_nearest_28 : decode cX1_nearest 28 = .ok (.iconst (-1), 1) := dk_2 (dk_at dksX1_nearest_1 5 rfl rfl)
theorem dX1_nearest_29 : decode cX1_nearest 29 = .ok (.if_icmp .eq 7, 3) := dk_159 0 7 (dk_at dksX1_nearest_1 6 rfl rfl)
theorem dX1_nearest_32 : decode cX1_nearest 32 = .ok (.iconst 1, 1) := dk_4 (dk_at dksX1_nearest_1 9 rfl rfl)
theorem dX1_nearest_33 : decode cX1_nearest 33 = .ok (.goto 4, 3) := dk_167 0 4 (dk_at dksX1_nearest_1 10 rfl rfl)
theorem dX1_nearest_36 : decode cX1_nearest 36 = .ok (.iconst 0, 1) := dk_3 (dk_at dksX1_nearest_1 13 rfl rfl)
theorem dX1_nearest_37 : decode cX1_nearest 37 = .ok (.invokestatic 234, 3) := dk_184 0 234 (dk_at dksX1_nearest_1 14 rfl rfl)
theorem dX1_nearest_40 : decode cX1_nearest 40 = .ok (.iload_n 3, 1) := dk_29 (dk_at dksX1_nearest_1 17 rfl rfl)
theorem dX1_nearest_41 : decode cX1_nearest 41 = .ok (.ireturn, 1) := dk_172 (dk_at dksX1_nearest_1 18 rfl rfl)
abbrev cX1_stray : ByteArray := prog_1_method_30_code
def yX1_stray : MethodName := ⟨RX1, "stray", "(I)I"⟩
def dkwX1_stray_1 : List UInt8 := [42, 180, 0, 37, 180, 0, 103, 44, 27, 182, 0, 171, 182, 0, 193, 172]
abbrev dktX1_stray_1 : List UInt8 := dkwX1_stray_1 ++ []
def dkwX1_stray_0 : List UInt8 := [42, 180, 0, 37, 182, 0, 237, 77, 27, 133, 9, 44, 182, 0, 107, 4, 100, 133, 184, 0, 23, 184, 0, 234]
abbrev dktX1_stray_0 : List UInt8 := dkwX1_stray_0 ++ dktX1_stray_1
theorem dksX1_stray_0 : cX1_stray.data.toList.drop 0 = dktX1_stray_0 := by decide +kernel
theorem dksX1_stray_1 : cX1_stray.data.toList.drop 24 = dktX1_stray_1 := dk_seg dksX1_stray_0 24 rfl rfl
theorem dX1_stray_0 : decode cX1_stray 0 = .ok (.aload_n 0, 1) := dk_42 (dk_at dksX1_stray_0 0 rfl rfl)
theorem dX1_stray_1 : decode cX1_stray 1 = .ok (.getfield 37, 3) := dk_180 0 37 (dk_at dksX1_stray_0 1 rfl rfl)
theorem dX1_stray_4 : decode cX1_stray 4 = .ok (.invokevirtual 237, 3) := dk_182 0 237 (dk_at dksX1_stray_0 4 rfl rfl)
theorem dX1_stray_7 : decode cX1_stray 7 = .ok (.astore_n 2, 1) := dk_77 (dk_at dksX1_stray_0 7 rfl rfl)
theorem dX1_stray_8 : decode cX1_stray 8 = .ok (.iload_n 1, 1) := dk_27 (dk_at dksX1_stray_0 8 rfl rfl)
theorem dX1_stray_9 : decode cX1_stray 9 = .ok (.i2l, 1) := dk_133 (dk_at dksX1_stray_0 9 rfl rfl)
theorem dX1_stray_10 : decode cX1_stray 10 = .ok (.lconst 0, 1) := dk_9 (dk_at dksX1_stray_0 10 rfl rfl)
theorem dX1_stray_11 : decode cX1_stray 11 = .ok (.aload_n 2, 1) := dk_44 (dk_at dksX1_stray_0 11 rfl rfl)
theorem dX1_stray_12 : decode cX1_stray 12 = .ok (.invokevirtual 107, 3) := dk_182 0 107 (dk_at dksX1_stray_0 12 rfl rfl)
theorem dX1_stray_15 : decode cX1_stray 15 = .ok (.iconst 1, 1) := dk_4 (dk_at dksX1_stray_0 15 rfl rfl)
theorem dX1_stray_16 : decode cX1_stray 16 = .ok (.isub, 1) := dk_100 (dk_at dksX1_stray_0 16 rfl rfl)
theorem dX1_stray_17 : decode cX1_stray 17 = .ok (.i2l, 1) := dk_133 (dk_at dksX1_stray_0 17 rfl rfl)
theorem dX1_stray_18 : decode cX1_stray 18 = .ok (.invokestatic 23, 3) := dk_184 0 23 (dk_at dksX1_stray_0 18 rfl rfl)
theorem dX1_stray_21 : decode cX1_stray 21 = .ok (.invokestatic 234, 3) := dk_184 0 234 (dk_at dksX1_stray_0 21 rfl rfl)
theorem dX1_stray_24 : decode cX1_stray 24 = .ok (.aload_n 0, 1) := dk_42 (dk_at dksX1_stray_1 0 rfl rfl)
theorem dX1_stray_25 : decode cX1_stray 25 = .ok (.getfield 37, 3) := dk_180 0 37 (dk_at dksX1_stray_1 1 rfl rfl)
theorem dX1_stray_28 : decode cX1_stray 28 = .ok (.getfield 103, 3) := dk_180 0 103 (dk_at dksX1_stray_1 4 rfl rfl)
theorem dX1_stray_31 : decode cX1_stray 31 = .ok (.aload_n 2, 1) := dk_44 (dk_at dksX1_stray_1 7 rfl rfl)
theorem dX1_stray_32 : decode cX1_stray 32 = .ok (.iload_n 1, 1) := dk_27 (dk_at dksX1_stray_1 8 rfl rfl)
theorem dX1_stray_33 : decode cX1_stray 33 = .ok (.invokevirtual 171, 3) := dk_182 0 171 (dk_at dksX1_stray_1 9 rfl rfl)
theorem dX1_stray_36 : decode cX1_stray 36 = .ok (.invokevirtual 193, 3) := dk_182 0 193 (dk_at dksX1_stray_1 12 rfl rfl)
theorem dX1_stray_39 : decode cX1_stray 39 = .ok (.ireturn, 1) := dk_172 (dk_at dksX1_stray_1 15 rfl rfl)
abbrev cX1_dog : ByteArray := prog_1_method_31_code
def yX1_dog : MethodName := ⟨RX1, "dog", "(II)I"⟩
def dkwX1_dog_0 : List UInt8 := [42, 18, 241, 5, 188, 10, 89, 3, 27, 79, 89, 4, 28, 79, 182, 0, 114, 172]
abbrev dktX1_dog_0 : List UInt8 := dkwX1_dog_0 ++ []
theorem dksX1_dog_0 : cX1_dog.data.toList.drop 0 = dktX1_dog_0 := by decide +kernel
theorem dX1_dog_0 : decode cX1_dog 0 = .ok (.aload_n 0, 1) := dk_42 (dk_at dksX1_dog_0 0 rfl rfl)
theorem dX1_dog_1 : decode cX1_dog 1 = .ok (.ldc 241, 2) := dk_18 241 (dk_at dksX1_dog_0 1 rfl rfl)
theorem dX1_dog_3 : decode cX1_dog 3 = .ok (.iconst 2, 1) := dk_5 (dk_at dksX1_dog_0 3 rfl rfl)
theorem dX1_dog_4 : decode cX1_dog 4 = .ok (.newarray .int, 2) := dk_188_10 (dk_at dksX1_dog_0 4 rfl rfl)
theorem dX1_dog_6 : decode cX1_dog 6 = .ok (.dup, 1) := dk_89 (dk_at dksX1_dog_0 6 rfl rfl)
theorem dX1_dog_7 : decode cX1_dog 7 = .ok (.iconst 0, 1) := dk_3 (dk_at dksX1_dog_0 7 rfl rfl)
theorem dX1_dog_8 : decode cX1_dog 8 = .ok (.iload_n 1, 1) := dk_27 (dk_at dksX1_dog_0 8 rfl rfl)
theorem dX1_dog_9 : decode cX1_dog 9 = .ok (.iastore, 1) := dk_79 (dk_at dksX1_dog_0 9 rfl rfl)
theorem dX1_dog_10 : decode cX1_dog 10 = .ok (.dup, 1) := dk_89 (dk_at dksX1_dog_0 10 rfl rfl)
theorem dX1_dog_11 : decode cX1_dog 11 = .ok (.iconst 1, 1) := dk_4 (dk_at dksX1_dog_0 11 rfl rfl)
theorem dX1_dog_12 : decode cX1_dog 12 = .ok (.iload_n 2, 1) := dk_28 (dk_at dksX1_dog_0 12 rfl rfl)
theorem dX1_dog_13 : decode cX1_dog 13 = .ok (.iastore, 1) := dk_79 (dk_at dksX1_dog_0 13 rfl rfl)
theorem dX1_dog_14 : decode cX1_dog 14 = .ok (.invokevirtual 114, 3) := dk_182 0 114 (dk_at dksX1_dog_0 14 rfl rfl)
theorem dX1_dog_17 : decode cX1_dog 17 = .ok (.ireturn, 1) := dk_172 (dk_at dksX1_dog_0 17 rfl rfl)
abbrev cX1_fetch : ByteArray := prog_1_method_32_code
def yX1_fetch : MethodName := ⟨RX1, "fetch", "(I)I"⟩
def dkwX1_fetch_0 : List UInt8 := [42, 18, 243, 4, 188, 10, 89, 3, 27, 79, 182, 0, 114, 172]
abbrev dktX1_fetch_0 : List UInt8 := dkwX1_fetch_0 ++ []
theorem dksX1_fetch_0 : cX1_fetch.data.toList.drop 0 = dktX1_fetch_0 := by decide +kernel
theorem dX1_fetch_0 : decode cX1_fetch 0 = .ok (.aload_n 0, 1) := dk_42 (dk_at dksX1_fetch_0 0 rfl rfl)
theorem dX1_fetch_1 : decode cX1_fetch 1 = .ok (.ldc 243, 2) := dk_18 243 (dk_at dksX1_fetch_0 1 rfl rfl)
theorem dX1_fetch_3 : decode cX1_fetch 3 = .ok (.iconst 1, 1) := dk_4 (dk_at dksX1_fetch_0 3 rfl rfl)
theorem dX1_fetch_4 : decode cX1_fetch 4 = .ok (.newarray .int, 2) := dk_188_10 (dk_at dksX1_fetch_0 4 rfl rfl)
theorem dX1_fetch_6 : decode cX1_fetch 6 = .ok (.dup, 1) := dk_89 (dk_at dksX1_fetch_0 6 rfl rfl)
theorem dX1_fetch_7 : decode cX1_fetch 7 = .ok (.iconst 0, 1) := dk_3 (dk_at dksX1_fetch_0 7 rfl rfl)
theorem dX1_fetch_8 : decode cX1_fetch 8 = .ok (.iload_n 1, 1) := dk_27 (dk_at dksX1_fetch_0 8 rfl rfl)
theorem dX1_fetch_9 : decode cX1_fetch 9 = .ok (.iastore, 1) := dk_79 (dk_at dksX1_fetch_0 9 rfl rfl)
theorem dX1_fetch_10 : decode cX1_fetch 10 = .ok (.invokevirtual 114, 3) := dk_182 0 114 (dk_at dksX1_fetch_0 10 rfl rfl)
theorem dX1_fetch_13 : decode cX1_fetch 13 = .ok (.ireturn, 1) := dk_172 (dk_at dksX1_fetch_0 13 rfl rfl)
abbrev cX1_dogAt : ByteArray := prog_1_method_33_code
def yX1_dogAt : MethodName := ⟨RX1, "dogAt", "(I)I"⟩
def dkwX1_dogAt_0 : List UInt8 := [42, 180, 0, 37, 27, 182, 0, 245, 42, 180, 0, 37, 180, 0, 156, 27, 46, 172]
abbrev dktX1_dogAt_0 : List UInt8 := dkwX1_dogAt_0 ++ []
theorem dksX1_dogAt_0 : cX1_dogAt.data.toList.drop 0 = dktX1_dogAt_0 := by decide +kernel
theorem dX1_dogAt_0 : decode cX1_dogAt 0 = .ok (.aload_n 0, 1) := dk_42 (dk_at dksX1_dogAt_0 0 rfl rfl)
theorem dX1_dogAt_1 : decode cX1_dogAt 1 = .ok (.getfield 37, 3) := dk_180 0 37 (dk_at dksX1_dogAt_0 1 rfl rfl)
theorem dX1_dogAt_4 : decode cX1_dogAt 4 = .ok (.iload_n 1, 1) := dk_27 (dk_at dksX1_dogAt_0 4 rfl rfl)
theorem dX1_dogAt_5 : decode cX1_dogAt 5 = .ok (.invokevirtual 245, 3) := dk_182 0 245 (dk_at dksX1_dogAt_0 5 rfl rfl)
theorem dX1_dogAt_8 : decode cX1_dogAt 8 = .ok (.aload_n 0, 1) := dk_42 (dk_at dksX1_dogAt_0 8 rfl rfl)
theorem dX1_dogAt_9 : decode cX1_dogAt 9 = .ok (.getfield 37, 3) := dk_180 0 37 (dk_at dksX1_dogAt_0 9 rfl rfl)
theorem dX1_dogAt_12 : decode cX1_dogAt 12 = .ok (.getfield 156, 3) := dk_180 0 156 (dk_at dksX1_dogAt_0 12 rfl rfl)
theorem dX1_dogAt_15 : decode cX1_dogAt 15 = .ok (.iload_n 1, 1) := dk_27 (dk_at dksX1_dogAt_0 15 rfl rfl)
theorem dX1_dogAt_16 : decode cX1_dogAt 16 = .ok (.iaload, 1) := dk_46 (dk_at dksX1_dogAt_0 16 rfl rfl)
theorem dX1_dogAt_17 : decode cX1_dogAt 17 = .ok (.ireturn, 1) := dk_172 (dk_at dksX1_dogAt_0 17 rfl rfl)
abbrev cX1_apart : ByteArray := prog_1_method_34_code
def yX1_apart : MethodName := ⟨RX1, "apart", "(II)I"⟩
def dkwX1_apart_1 : List UInt8 := [180, 0, 37, 180, 0, 168, 28, 182, 0, 171, 192, 0, 226, 182, 0, 252, 172]
abbrev dktX1_apart_1 : List UInt8 := dkwX1_apart_1 ++ []
def dkwX1_apart_0 : List UInt8 := [42, 180, 0, 37, 27, 28, 182, 0, 248, 42, 180, 0, 37, 180, 0, 168, 27, 182, 0, 171, 192, 0, 175, 42]
abbrev dktX1_apart_0 : List UInt8 := dkwX1_apart_0 ++ dktX1_apart_1
theorem dksX1_apart_0 : cX1_apart.data.toList.drop 0 = dktX1_apart_0 := by decide +kernel
theorem dksX1_apart_1 : cX1_apart.data.toList.drop 24 = dktX1_apart_1 := dk_seg dksX1_apart_0 24 rfl rfl
theorem dX1_apart_0 : decode cX1_apart 0 = .ok (.aload_n 0, 1) := dk_42 (dk_at dksX1_apart_0 0 rfl rfl)
theorem dX1_apart_1 : decode cX1_apart 1 = .ok (.getfield 37, 3) := dk_180 0 37 (dk_at dksX1_apart_0 1 rfl rfl)
theorem dX1_apart_4 : decode cX1_apart 4 = .ok (.iload_n 1, 1) := dk_27 (dk_at dksX1_apart_0 4 rfl rfl)
theorem dX1_apart_5 : decode cX1_apart 5 = .ok (.iload_n 2, 1) := dk_28 (dk_at dksX1_apart_0 5 rfl rfl)
theorem dX1_apart_6 : decode cX1_apart 6 = .ok (.invokevirtual 248, 3) := dk_182 0 248 (dk_at dksX1_apart_0 6 rfl rfl)
theorem dX1_apart_9 : decode cX1_apart 9 = .ok (.aload_n 0, 1) := dk_42 (dk_at dksX1_apart_0 9 rfl rfl)
theorem dX1_apart_10 : decode cX1_apart 10 = .ok (.getfield 37, 3) := dk_180 0 37 (dk_at dksX1_apart_0 10 rfl rfl)
theorem dX1_apart_13 : decode cX1_apart 13 = .ok (.getfield 168, 3) := dk_180 0 168 (dk_at dksX1_apart_0 13 rfl rfl)
theorem dX1_apart_16 : decode cX1_apart 16 = .ok (.iload_n 1, 1) := dk_27 (dk_at dksX1_apart_0 16 rfl rfl)
theorem dX1_apart_17 : decode cX1_apart 17 = .ok (.invokevirtual 171, 3) := dk_182 0 171 (dk_at dksX1_apart_0 17 rfl rfl)
theorem dX1_apart_20 : decode cX1_apart 20 = .ok (.checkcast 175, 3) := dk_192 0 175 (dk_at dksX1_apart_0 20 rfl rfl)
theorem dX1_apart_23 : decode cX1_apart 23 = .ok (.aload_n 0, 1) := dk_42 (dk_at dksX1_apart_0 23 rfl rfl)
theorem dX1_apart_24 : decode cX1_apart 24 = .ok (.getfield 37, 3) := dk_180 0 37 (dk_at dksX1_apart_1 0 rfl rfl)
theorem dX1_apart_27 : decode cX1_apart 27 = .ok (.getfield 168, 3) := dk_180 0 168 (dk_at dksX1_apart_1 3 rfl rfl)
theorem dX1_apart_30 : decode cX1_apart 30 = .ok (.iload_n 2, 1) := dk_28 (dk_at dksX1_apart_1 6 rfl rfl)
theorem dX1_apart_31 : decode cX1_apart 31 = .ok (.invokevirtual 171, 3) := dk_182 0 171 (dk_at dksX1_apart_1 7 rfl rfl)
theorem dX1_apart_34 : decode cX1_apart 34 = .ok (.checkcast 226, 3) := dk_192 0 226 (dk_at dksX1_apart_1 10 rfl rfl)
theorem dX1_apart_37 : decode cX1_apart 37 = .ok (.invokevirtual 252, 3) := dk_182 0 252 (dk_at dksX1_apart_1 13 rfl rfl)
theorem dX1_apart_40 : decode cX1_apart 40 = .ok (.ireturn, 1) := dk_172 (dk_at dksX1_apart_1 16 rfl rfl)
abbrev cX1_ranked : ByteArray := prog_1_method_35_code
def yX1_ranked : MethodName := ⟨RX1, "ranked", "(I)I"⟩
def dkwX1_ranked_0 : List UInt8 := [42, 180, 0, 37, 27, 182, 0, 254, 61, 28, 2, 159, 0, 7, 4, 167, 0, 4, 3, 184, 0, 234, 28, 172]
abbrev dktX1_ranked_0 : List UInt8 := dkwX1_ranked_0 ++ []
theorem dksX1_ranked_0 : cX1_ranked.data.toList.drop 0 = dktX1_ranked_0 := by decide +kernel
theorem dX1_ranked_0 : decode cX1_ranked 0 = .ok (.aload_n 0, 1) := dk_42 (dk_at dksX1_ranked_0 0 rfl rfl)
theorem dX1_ranked_1 : decode cX1_ranked 1 = .ok (.getfield 37, 3) := dk_180 0 37 (dk_at dksX1_ranked_0 1 rfl rfl)
theorem dX1_ranked_4 : decode cX1_ranked 4 = .ok (.iload_n 1, 1) := dk_27 (dk_at dksX1_ranked_0 4 rfl rfl)
theorem dX1_ranked_5 : decode cX1_ranked 5 = .ok (.invokevirtual 254, 3) := dk_182 0 254 (dk_at dksX1_ranked_0 5 rfl rfl)
theorem dX1_ranked_8 : decode cX1_ranked 8 = .ok (.istore_n 2, 1) := dk_61 (dk_at dksX1_ranked_0 8 rfl rfl)
theorem dX1_ranked_9 : decode cX1_ranked 9 = .ok (.iload_n 2, 1) := dk_28 (dk_at dksX1_ranked_0 9 rfl rfl)
theorem dX1_ranked_10 : decode cX1_ranked 10 = .ok (.iconst (-1), 1) := dk_2 (dk_at dksX1_ranked_0 10 rfl rfl)
theorem dX1_ranked_11 : decode cX1_ranked 11 = .ok (.if_icmp .eq 7, 3) := dk_159 0 7 (dk_at dksX1_ranked_0 11 rfl rfl)
theorem dX1_ranked_14 : decode cX1_ranked 14 = .ok (.iconst 1, 1) := dk_4 (dk_at dksX1_ranked_0 14 rfl rfl)
theorem dX1_ranked_15 : decode cX1_ranked 15 = .ok (.goto 4, 3) := dk_167 0 4 (dk_at dksX1_ranked_0 15 rfl rfl)
theorem dX1_ranked_18 : decode cX1_ranked 18 = .ok (.iconst 0, 1) := dk_3 (dk_at dksX1_ranked_0 18 rfl rfl)
theorem dX1_ranked_19 : decode cX1_ranked 19 = .ok (.invokestatic 234, 3) := dk_184 0 234 (dk_at dksX1_ranked_0 19 rfl rfl)
theorem dX1_ranked_22 : decode cX1_ranked 22 = .ok (.iload_n 2, 1) := dk_28 (dk_at dksX1_ranked_0 22 rfl rfl)
theorem dX1_ranked_23 : decode cX1_ranked 23 = .ok (.ireturn, 1) := dk_172 (dk_at dksX1_ranked_0 23 rfl rfl)
abbrev cX1_hutLine : ByteArray := prog_1_method_37_code
def yX1_hutLine : MethodName := ⟨RX1, "hutLine", "(I)I"⟩
def dkwX1_hutLine_1 : List UInt8 := [182, 1, 8, 172]
abbrev dktX1_hutLine_1 : List UInt8 := dkwX1_hutLine_1 ++ []
def dkwX1_hutLine_0 : List UInt8 := [42, 180, 0, 37, 27, 182, 0, 160, 42, 42, 180, 0, 37, 27, 182, 1, 4, 181, 0, 57, 42, 180, 0, 57]
abbrev dktX1_hutLine_0 : List UInt8 := dkwX1_hutLine_0 ++ dktX1_hutLine_1
theorem dksX1_hutLine_0 : cX1_hutLine.data.toList.drop 0 = dktX1_hutLine_0 := by decide +kernel
theorem dksX1_hutLine_1 : cX1_hutLine.data.toList.drop 24 = dktX1_hutLine_1 := dk_seg dksX1_hutLine_0 24 rfl rfl
theorem dX1_hutLine_0 : decode cX1_hutLine 0 = .ok (.aload_n 0, 1) := dk_42 (dk_at dksX1_hutLine_0 0 rfl rfl)
theorem dX1_hutLine_1 : decode cX1_hutLine 1 = .ok (.getfield 37, 3) := dk_180 0 37 (dk_at dksX1_hutLine_0 1 rfl rfl)
theorem dX1_hutLine_4 : decode cX1_hutLine 4 = .ok (.iload_n 1, 1) := dk_27 (dk_at dksX1_hutLine_0 4 rfl rfl)
theorem dX1_hutLine_5 : decode cX1_hutLine 5 = .ok (.invokevirtual 160, 3) := dk_182 0 160 (dk_at dksX1_hutLine_0 5 rfl rfl)
theorem dX1_hutLine_8 : decode cX1_hutLine 8 = .ok (.aload_n 0, 1) := dk_42 (dk_at dksX1_hutLine_0 8 rfl rfl)
theorem dX1_hutLine_9 : decode cX1_hutLine 9 = .ok (.aload_n 0, 1) := dk_42 (dk_at dksX1_hutLine_0 9 rfl rfl)
theorem dX1_hutLine_10 : decode cX1_hutLine 10 = .ok (.getfield 37, 3) := dk_180 0 37 (dk_at dksX1_hutLine_0 10 rfl rfl)
theorem dX1_hutLine_13 : decode cX1_hutLine 13 = .ok (.iload_n 1, 1) := dk_27 (dk_at dksX1_hutLine_0 13 rfl rfl)
theorem dX1_hutLine_14 : decode cX1_hutLine 14 = .ok (.invokevirtual 260, 3) := dk_182 1 4 (dk_at dksX1_hutLine_0 14 rfl rfl)
theorem dX1_hutLine_17 : decode cX1_hutLine 17 = .ok (.putfield 57, 3) := dk_181 0 57 (dk_at dksX1_hutLine_0 17 rfl rfl)
theorem dX1_hutLine_20 : decode cX1_hutLine 20 = .ok (.aload_n 0, 1) := dk_42 (dk_at dksX1_hutLine_0 20 rfl rfl)
theorem dX1_hutLine_21 : decode cX1_hutLine 21 = .ok (.getfield 57, 3) := dk_180 0 57 (dk_at dksX1_hutLine_0 21 rfl rfl)
theorem dX1_hutLine_24 : decode cX1_hutLine 24 = .ok (.invokevirtual 264, 3) := dk_182 1 8 (dk_at dksX1_hutLine_1 0 rfl rfl)
theorem dX1_hutLine_27 : decode cX1_hutLine 27 = .ok (.ireturn, 1) := dk_172 (dk_at dksX1_hutLine_1 3 rfl rfl)
abbrev cX1_character : ByteArray := prog_1_method_39_code
def yX1_character : MethodName := ⟨RX1, "character", "(I)C"⟩
def dkwX1_character_1 : List UInt8 := [182, 1, 19, 172]
abbrev dktX1_character_1 : List UInt8 := dkwX1_character_1 ++ []
def dkwX1_character_0 : List UInt8 := [27, 133, 9, 42, 180, 0, 57, 182, 1, 8, 4, 100, 133, 184, 0, 23, 184, 1, 16, 42, 180, 0, 57, 27]
abbrev dktX1_character_0 : List UInt8 := dkwX1_character_0 ++ dktX1_character_1
theorem dksX1_character_0 : cX1_character.data.toList.drop 0 = dktX1_character_0 := by decide +kernel
theorem dksX1_character_1 : cX1_character.data.toList.drop 24 = dktX1_character_1 := dk_seg dksX1_character_0 24 rfl rfl
theorem dX1_character_0 : decode cX1_character 0 = .ok (.iload_n 1, 1) := dk_27 (dk_at dksX1_character_0 0 rfl rfl)
theorem dX1_character_1 : decode cX1_character 1 = .ok (.i2l, 1) := dk_133 (dk_at dksX1_character_0 1 rfl rfl)
theorem dX1_character_2 : decode cX1_character 2 = .ok (.lconst 0, 1) := dk_9 (dk_at dksX1_character_0 2 rfl rfl)
theorem dX1_character_3 : decode cX1_character 3 = .ok (.aload_n 0, 1) := dk_42 (dk_at dksX1_character_0 3 rfl rfl)
theorem dX1_character_4 : decode cX1_character 4 = .ok (.getfield 57, 3) := dk_180 0 57 (dk_at dksX1_character_0 4 rfl rfl)
theorem dX1_character_7 : decode cX1_character 7 = .ok (.invokevirtual 264, 3) := dk_182 1 8 (dk_at dksX1_character_0 7 rfl rfl)
theorem dX1_character_10 : decode cX1_character 10 = .ok (.iconst 1, 1) := dk_4 (dk_at dksX1_character_0 10 rfl rfl)
theorem dX1_character_11 : decode cX1_character 11 = .ok (.isub, 1) := dk_100 (dk_at dksX1_character_0 11 rfl rfl)
theorem dX1_character_12 : decode cX1_character 12 = .ok (.i2l, 1) := dk_133 (dk_at dksX1_character_0 12 rfl rfl)
theorem dX1_character_13 : decode cX1_character 13 = .ok (.invokestatic 23, 3) := dk_184 0 23 (dk_at dksX1_character_0 13 rfl rfl)
theorem dX1_character_16 : decode cX1_character 16 = .ok (.invokestatic 272, 3) := dk_184 1 16 (dk_at dksX1_character_0 16 rfl rfl)
theorem dX1_character_19 : decode cX1_character 19 = .ok (.aload_n 0, 1) := dk_42 (dk_at dksX1_character_0 19 rfl rfl)
theorem dX1_character_20 : decode cX1_character 20 = .ok (.getfield 57, 3) := dk_180 0 57 (dk_at dksX1_character_0 20 rfl rfl)
theorem dX1_character_23 : decode cX1_character 23 = .ok (.iload_n 1, 1) := dk_27 (dk_at dksX1_character_0 23 rfl rfl)
theorem dX1_character_24 : decode cX1_character 24 = .ok (.invokevirtual 275, 3) := dk_182 1 19 (dk_at dksX1_character_1 0 rfl rfl)
theorem dX1_character_27 : decode cX1_character 27 = .ok (.ireturn, 1) := dk_172 (dk_at dksX1_character_1 3 rfl rfl)
abbrev cX1_refusal : ByteArray := prog_1_method_40_code
def yX1_refusal : MethodName := ⟨RX1, "refusal", "(Z)I"⟩
def dkwX1_refusal_1 : List UInt8 := [180, 1, 26, 167, 0, 10, 42, 180, 0, 92, 180, 1, 29, 172]
abbrev dktX1_refusal_1 : List UInt8 := dkwX1_refusal_1 ++ []
def dkwX1_refusal_0 : List UInt8 := [42, 180, 0, 92, 198, 0, 7, 4, 167, 0, 4, 3, 184, 1, 23, 27, 153, 0, 13, 42, 180, 0, 92]
abbrev dktX1_refusal_0 : List UInt8 := dkwX1_refusal_0 ++ dktX1_refusal_1
theorem dksX1_refusal_0 : cX1_refusal.data.toList.drop 0 = dktX1_refusal_0 := by decide +kernel
theorem dksX1_refusal_1 : cX1_refusal.data.toList.drop 23 = dktX1_refusal_1 := dk_seg dksX1_refusal_0 23 rfl rfl
theorem dX1_refusal_0 : decode cX1_refusal 0 = .ok (.aload_n 0, 1) := dk_42 (dk_at dksX1_refusal_0 0 rfl rfl)
theorem dX1_refusal_1 : decode cX1_refusal 1 = .ok (.getfield 92, 3) := dk_180 0 92 (dk_at dksX1_refusal_0 1 rfl rfl)
theorem dX1_refusal_4 : decode cX1_refusal 4 = .ok (.ifnull 7, 3) := dk_198 0 7 (dk_at dksX1_refusal_0 4 rfl rfl)
theorem dX1_refusal_7 : decode cX1_refusal 7 = .ok (.iconst 1, 1) := dk_4 (dk_at dksX1_refusal_0 7 rfl rfl)
theorem dX1_refusal_8 : decode cX1_refusal 8 = .ok (.goto 4, 3) := dk_167 0 4 (dk_at dksX1_refusal_0 8 rfl rfl)
theorem dX1_refusal_11 : decode cX1_refusal 11 = .ok (.iconst 0, 1) := dk_3 (dk_at dksX1_refusal_0 11 rfl rfl)
theorem dX1_refusal_12 : decode cX1_refusal 12 = .ok (.invokestatic 279, 3) := dk_184 1 23 (dk_at dksX1_refusal_0 12 rfl rfl)
theorem dX1_refusal_15 : decode cX1_refusal 15 = .ok (.iload_n 1, 1) := dk_27 (dk_at dksX1_refusal_0 15 rfl rfl)
theorem dX1_refusal_16 : decode cX1_refusal 16 = .ok (.ifCond .eq 13, 3) := dk_153 0 13 (dk_at dksX1_refusal_0 16 rfl rfl)
theorem dX1_refusal_19 : decode cX1_refusal 19 = .ok (.aload_n 0, 1) := dk_42 (dk_at dksX1_refusal_0 19 rfl rfl)
theorem dX1_refusal_20 : decode cX1_refusal 20 = .ok (.getfield 92, 3) := dk_180 0 92 (dk_at dksX1_refusal_0 20 rfl rfl)
theorem dX1_refusal_23 : decode cX1_refusal 23 = .ok (.getfield 282, 3) := dk_180 1 26 (dk_at dksX1_refusal_1 0 rfl rfl)
theorem dX1_refusal_26 : decode cX1_refusal 26 = .ok (.goto 10, 3) := dk_167 0 10 (dk_at dksX1_refusal_1 3 rfl rfl)
theorem dX1_refusal_29 : decode cX1_refusal 29 = .ok (.aload_n 0, 1) := dk_42 (dk_at dksX1_refusal_1 6 rfl rfl)
theorem dX1_refusal_30 : decode cX1_refusal 30 = .ok (.getfield 92, 3) := dk_180 0 92 (dk_at dksX1_refusal_1 7 rfl rfl)
theorem dX1_refusal_33 : decode cX1_refusal 33 = .ok (.getfield 285, 3) := dk_180 1 29 (dk_at dksX1_refusal_1 10 rfl rfl)
theorem dX1_refusal_36 : decode cX1_refusal 36 = .ok (.ireturn, 1) := dk_172 (dk_at dksX1_refusal_1 13 rfl rfl)
abbrev cX1_checkState : ByteArray := prog_1_method_4_code
def yX1_checkState : MethodName := ⟨RX1, "checkState", "(Z)V"⟩
def dkwX1_checkState_0 : List UInt8 := [26, 154, 0, 11, 187, 0, 10, 89, 183, 0, 12, 191, 177]
abbrev dktX1_checkState_0 : List UInt8 := dkwX1_checkState_0 ++ []
theorem dksX1_checkState_0 : cX1_checkState.data.toList.drop 0 = dktX1_checkState_0 := by decide +kernel
theorem dX1_checkState_0 : decode cX1_checkState 0 = .ok (.iload_n 0, 1) := dk_26 (dk_at dksX1_checkState_0 0 rfl rfl)
theorem dX1_checkState_1 : decode cX1_checkState 1 = .ok (.ifCond .ne 11, 3) := dk_154 0 11 (dk_at dksX1_checkState_0 1 rfl rfl)
theorem dX1_checkState_4 : decode cX1_checkState 4 = .ok (.new 10, 3) := dk_187 0 10 (dk_at dksX1_checkState_0 4 rfl rfl)
theorem dX1_checkState_7 : decode cX1_checkState 7 = .ok (.dup, 1) := dk_89 (dk_at dksX1_checkState_0 7 rfl rfl)
theorem dX1_checkState_8 : decode cX1_checkState 8 = .ok (.invokespecial 12, 3) := dk_183 0 12 (dk_at dksX1_checkState_0 8 rfl rfl)
theorem dX1_checkState_11 : decode cX1_checkState 11 = .ok (.athrow, 1) := dk_191 (dk_at dksX1_checkState_0 11 rfl rfl)
theorem dX1_checkState_12 : decode cX1_checkState 12 = .ok (.return_, 1) := dk_177 (dk_at dksX1_checkState_0 12 rfl rfl)
abbrev cX1_account : ByteArray := prog_1_method_43_code
def yX1_account : MethodName := ⟨RX1, "account", "(I)I"⟩
def dkwX1_account_6 : List UInt8 := [187, 0, 1, 89, 183, 0, 3, 191]
abbrev dktX1_account_6 : List UInt8 := dkwX1_account_6 ++ []
def dkwX1_account_5 : List UInt8 := [180, 0, 37, 180, 1, 62, 172, 42, 180, 0, 51, 182, 1, 65, 172, 42, 180, 0, 44, 182, 0, 65, 172]
abbrev dktX1_account_5 : List UInt8 := dkwX1_account_5 ++ dktX1_account_6
def dkwX1_account_4 : List UInt8 := [180, 0, 37, 180, 1, 53, 172, 42, 180, 0, 37, 180, 1, 56, 172, 42, 180, 0, 37, 180, 1, 59, 172, 42]
abbrev dktX1_account_4 : List UInt8 := dkwX1_account_4 ++ dktX1_account_5
def dkwX1_account_3 : List UInt8 := [182, 1, 47, 172, 42, 182, 1, 50, 172, 42, 180, 0, 37, 2, 182, 0, 164, 182, 0, 179, 172, 42]
abbrev dktX1_account_3 : List UInt8 := dkwX1_account_3 ++ dktX1_account_4
def dkwX1_account_2 : List UInt8 := [42, 180, 0, 37, 180, 0, 103, 182, 0, 107, 172, 42, 180, 0, 37, 180, 0, 168, 182, 0, 107, 172, 42]
abbrev dktX1_account_2 : List UInt8 := dkwX1_account_2 ++ dktX1_account_3
def dkwX1_account_1 : List UInt8 := [170, 0, 0, 0, 0, 0, 151, 0, 0, 0, 0, 0, 0, 0, 10, 0, 0, 0, 59, 0, 0, 0, 70, 0, 0, 0, 81, 0, 0, 0, 86, 0, 0, 0, 91, 0, 0, 0, 103, 0, 0, 0, 111, 0, 0, 0, 119, 0, 0, 0, 127, 0, 0, 0, 135, 0, 0, 0, 143]
abbrev dktX1_account_1 : List UInt8 := dkwX1_account_1 ++ dktX1_account_2
def dkwX1_account_0 : List UInt8 := [27]
abbrev dktX1_account_0 : List UInt8 := dkwX1_account_0 ++ dktX1_account_1
theorem dksX1_account_0 : cX1_account.data.toList.drop 0 = dktX1_account_0 := by decide +kernel
theorem dksX1_account_1 : cX1_account.data.toList.drop 1 = dktX1_account_1 := dk_seg dksX1_account_0 1 rfl rfl
theorem dksX1_account_2 : cX1_account.data.toList.drop 60 = dktX1_account_2 := dk_seg dksX1_account_1 59 rfl rfl
theorem dksX1_account_3 : cX1_account.data.toList.drop 83 = dktX1_account_3 := dk_seg dksX1_account_2 23 rfl rfl
theorem dksX1_account_4 : cX1_account.data.toList.drop 105 = dktX1_account_4 := dk_seg dksX1_account_3 22 rfl rfl
theorem dksX1_account_5 : cX1_account.data.toList.drop 129 = dktX1_account_5 := dk_seg dksX1_account_4 24 rfl rfl
theorem dksX1_account_6 : cX1_account.data.toList.drop 152 = dktX1_account_6 := dk_seg dksX1_account_5 23 rfl rfl
theorem dX1_account_0 : decode cX1_account 0 = .ok (.iload_n 1, 1) := dk_27 (dk_at dksX1_account_0 0 rfl rfl)
theorem dX1_account_1 : decode cX1_account 1 = .ok (.tableswitch 151 0 10 #[59, 70, 81, 86, 91, 103, 111, 119, 127, 135, 143], 59) := by decide +kernel
theorem dX1_account_60 : decode cX1_account 60 = .ok (.aload_n 0, 1) := dk_42 (dk_at dksX1_account_2 0 rfl rfl)
theorem dX1_account_61 : decode cX1_account 61 = .ok (.getfield 37, 3) := dk_180 0 37 (dk_at dksX1_account_2 1 rfl rfl)
theorem dX1_account_64 : decode cX1_account 64 = .ok (.getfield 103, 3) := dk_180 0 103 (dk_at dksX1_account_2 4 rfl rfl)
theorem dX1_account_67 : decode cX1_account 67 = .ok (.invokevirtual 107, 3) := dk_182 0 107 (dk_at dksX1_account_2 7 rfl rfl)
theorem dX1_account_70 : decode cX1_account 70 = .ok (.ireturn, 1) := dk_172 (dk_at dksX1_account_2 10 rfl rfl)
theorem dX1_account_71 : decode cX1_account 71 = .ok (.aload_n 0, 1) := dk_42 (dk_at dksX1_account_2 11 rfl rfl)
theorem dX1_account_72 : decode cX1_account 72 = .ok (.getfield 37, 3) := dk_180 0 37 (dk_at dksX1_account_2 12 rfl rfl)
theorem dX1_account_75 : decode cX1_account 75 = .ok (.getfield 168, 3) := dk_180 0 168 (dk_at dksX1_account_2 15 rfl rfl)
theorem dX1_account_78 : decode cX1_account 78 = .ok (.invokevirtual 107, 3) := dk_182 0 107 (dk_at dksX1_account_2 18 rfl rfl)
theorem dX1_account_81 : decode cX1_account 81 = .ok (.ireturn, 1) := dk_172 (dk_at dksX1_account_2 21 rfl rfl)
theorem dX1_account_82 : decode cX1_account 82 = .ok (.aload_n 0, 1) := dk_42 (dk_at dksX1_account_2 22 rfl rfl)
theorem dX1_account_83 : decode cX1_account 83 = .ok (.invokevirtual 303, 3) := dk_182 1 47 (dk_at dksX1_account_3 0 rfl rfl)
theorem dX1_account_86 : decode cX1_account 86 = .ok (.ireturn, 1) := dk_172 (dk_at dksX1_account_3 3 rfl rfl)
theorem dX1_account_87 : decode cX1_account 87 = .ok (.aload_n 0, 1) := dk_42 (dk_at dksX1_account_3 4 rfl rfl)
theorem dX1_account_88 : decode cX1_account 88 = .ok (.invokevirtual 306, 3) := dk_182 1 50 (dk_at dksX1_account_3 5 rfl rfl)
theorem dX1_account_91 : decode cX1_account 91 = .ok (.ireturn, 1) := dk_172 (dk_at dksX1_account_3 8 rfl rfl)
theorem dX1_account_92 : decode cX1_account 92 = .ok (.aload_n 0, 1) := dk_42 (dk_at dksX1_account_3 9 rfl rfl)
theorem dX1_account_93 : decode cX1_account 93 = .ok (.getfield 37, 3) := dk_180 0 37 (dk_at dksX1_account_3 10 rfl rfl)
theorem dX1_account_96 : decode cX1_account 96 = .ok (.iconst (-1), 1) := dk_2 (dk_at dksX1_account_3 13 rfl rfl)
theorem dX1_account_97 : decode cX1_account 97 = .ok (.invokevirtual 164, 3) := dk_182 0 164 (dk_at dksX1_account_3 14 rfl rfl)
theorem dX1_account_100 : decode cX1_account 100 = .ok (.invokevirtual 179, 3) := dk_182 0 179 (dk_at dksX1_account_3 17 rfl rfl)
theorem dX1_account_103 : decode cX1_account 103 = .ok (.ireturn, 1) := dk_172 (dk_at dksX1_account_3 20 rfl rfl)
theorem dX1_account_104 : decode cX1_account 104 = .ok (.aload_n 0, 1) := dk_42 (dk_at dksX1_account_3 21 rfl rfl)
theorem dX1_account_105 : decode cX1_account 105 = .ok (.getfield 37, 3) := dk_180 0 37 (dk_at dksX1_account_4 0 rfl rfl)
theorem dX1_account_108 : decode cX1_account 108 = .ok (.getfield 309, 3) := dk_180 1 53 (dk_at dksX1_account_4 3 rfl rfl)
theorem dX1_account_111 : decode cX1_account 111 = .ok (.ireturn, 1) := dk_172 (dk_at dksX1_account_4 6 rfl rfl)
theorem dX1_account_112 : decode cX1_account 112 = .ok (.aload_n 0, 1) := dk_42 (dk_at dksX1_account_4 7 rfl rfl)
theorem dX1_account_113 : decode cX1_account 113 = .ok (.getfield 37, 3) := dk_180 0 37 (dk_at dksX1_account_4 8 rfl rfl)
theorem dX1_account_116 : decode cX1_account 116 = .ok (.getfield 312, 3) := dk_180 1 56 (dk_at dksX1_account_4 11 rfl rfl)
theorem dX1_account_119 : decode cX1_account 119 = .ok (.ireturn, 1) := dk_172 (dk_at dksX1_account_4 14 rfl rfl)
theorem dX1_account_120 : decode cX1_account 120 = .ok (.aload_n 0, 1) := dk_42 (dk_at dksX1_account_4 15 rfl rfl)
theorem dX1_account_121 : decode cX1_account 121 = .ok (.getfield 37, 3) := dk_180 0 37 (dk_at dksX1_account_4 16 rfl rfl)
theorem dX1_account_124 : decode cX1_account 124 = .ok (.getfield 315, 3) := dk_180 1 59 (dk_at dksX1_account_4 19 rfl rfl)
theorem dX1_account_127 : decode cX1_account 127 = .ok (.ireturn, 1) := dk_172 (dk_at dksX1_account_4 22 rfl rfl)
theorem dX1_account_128 : decode cX1_account 128 = .ok (.aload_n 0, 1) := dk_42 (dk_at dksX1_account_4 23 rfl rfl)
theorem dX1_account_129 : decode cX1_account 129 = .ok (.getfield 37, 3) := dk_180 0 37 (dk_at dksX1_account_5 0 rfl rfl)
theorem dX1_account_132 : decode cX1_account 132 = .ok (.getfield 318, 3) := dk_180 1 62 (dk_at dksX1_account_5 3 rfl rfl)
theorem dX1_account_135 : decode cX1_account 135 = .ok (.ireturn, 1) := dk_172 (dk_at dksX1_account_5 6 rfl rfl)
theorem dX1_account_136 : decode cX1_account 136 = .ok (.aload_n 0, 1) := dk_42 (dk_at dksX1_account_5 7 rfl rfl)
theorem dX1_account_137 : decode cX1_account 137 = .ok (.getfield 51, 3) := dk_180 0 51 (dk_at dksX1_account_5 8 rfl rfl)
theorem dX1_account_140 : decode cX1_account 140 = .ok (.invokevirtual 321, 3) := dk_182 1 65 (dk_at dksX1_account_5 11 rfl rfl)
theorem dX1_account_143 : decode cX1_account 143 = .ok (.ireturn, 1) := dk_172 (dk_at dksX1_account_5 14 rfl rfl)
theorem dX1_account_144 : decode cX1_account 144 = .ok (.aload_n 0, 1) := dk_42 (dk_at dksX1_account_5 15 rfl rfl)
theorem dX1_account_145 : decode cX1_account 145 = .ok (.getfield 44, 3) := dk_180 0 44 (dk_at dksX1_account_5 16 rfl rfl)
theorem dX1_account_148 : decode cX1_account 148 = .ok (.invokevirtual 65, 3) := dk_182 0 65 (dk_at dksX1_account_5 19 rfl rfl)
theorem dX1_account_151 : decode cX1_account 151 = .ok (.ireturn, 1) := dk_172 (dk_at dksX1_account_5 22 rfl rfl)
theorem dX1_account_152 : decode cX1_account 152 = .ok (.new 1, 3) := dk_187 0 1 (dk_at dksX1_account_6 0 rfl rfl)
theorem dX1_account_155 : decode cX1_account 155 = .ok (.dup, 1) := dk_89 (dk_at dksX1_account_6 3 rfl rfl)
theorem dX1_account_156 : decode cX1_account 156 = .ok (.invokespecial 3, 3) := dk_183 0 3 (dk_at dksX1_account_6 4 rfl rfl)
theorem dX1_account_159 : decode cX1_account 159 = .ok (.athrow, 1) := dk_191 (dk_at dksX1_account_6 7 rfl rfl)
abbrev cX1_weights : ByteArray := prog_1_method_41_code
def yX1_weights : MethodName := ⟨RX1, "weights", "()I"⟩
def dkwX1_weights_1 : List UInt8 := [185, 1, 41, 1, 0, 192, 0, 132, 78, 27, 45, 180, 0, 139, 96, 60, 167, 255, 230, 27, 172]
abbrev dktX1_weights_1 : List UInt8 := dkwX1_weights_1 ++ []
def dkwX1_weights_0 : List UInt8 := [3, 60, 42, 180, 0, 37, 180, 0, 103, 182, 1, 32, 77, 44, 185, 1, 36, 1, 0, 153, 0, 23, 44]
abbrev dktX1_weights_0 : List UInt8 := dkwX1_weights_0 ++ dktX1_weights_1
theorem dksX1_weights_0 : cX1_weights.data.toList.drop 0 = dktX1_weights_0 := by decide +kernel
theorem dksX1_weights_1 : cX1_weights.data.toList.drop 23 = dktX1_weights_1 := dk_seg dksX1_weights_0 23 rfl rfl
theorem dX1_weights_0 : decode cX1_weights 0 = .ok (.iconst 0, 1) := dk_3 (dk_at dksX1_weights_0 0 rfl rfl)
theorem dX1_weights_1 : decode cX1_weights 1 = .ok (.istore_n 1, 1) := dk_60 (dk_at dksX1_weights_0 1 rfl rfl)
theorem dX1_weights_2 : decode cX1_weights 2 = .ok (.aload_n 0, 1) := dk_42 (dk_at dksX1_weights_0 2 rfl rfl)
theorem dX1_weights_3 : decode cX1_weights 3 = .ok (.getfield 37, 3) := dk_180 0 37 (dk_at dksX1_weights_0 3 rfl rfl)
theorem dX1_weights_6 : decode cX1_weights 6 = .ok (.getfield 103, 3) := dk_180 0 103 (dk_at dksX1_weights_0 6 rfl rfl)
theorem dX1_weights_9 : decode cX1_weights 9 = .ok (.invokevirtual 288, 3) := dk_182 1 32 (dk_at dksX1_weights_0 9 rfl rfl)
theorem dX1_weights_12 : decode cX1_weights 12 = .ok (.astore_n 2, 1) := dk_77 (dk_at dksX1_weights_0 12 rfl rfl)
theorem dX1_weights_13 : decode cX1_weights 13 = .ok (.aload_n 2, 1) := dk_44 (dk_at dksX1_weights_0 13 rfl rfl)
theorem dX1_weights_14 : decode cX1_weights 14 = .ok (.invokeinterface 292 1, 5) := by decide +kernel
theorem dX1_weights_19 : decode cX1_weights 19 = .ok (.ifCond .eq 23, 3) := dk_153 0 23 (dk_at dksX1_weights_0 19 rfl rfl)
theorem dX1_weights_22 : decode cX1_weights 22 = .ok (.aload_n 2, 1) := dk_44 (dk_at dksX1_weights_0 22 rfl rfl)
theorem dX1_weights_23 : decode cX1_weights 23 = .ok (.invokeinterface 297 1, 5) := by decide +kernel
theorem dX1_weights_28 : decode cX1_weights 28 = .ok (.checkcast 132, 3) := dk_192 0 132 (dk_at dksX1_weights_1 5 rfl rfl)
theorem dX1_weights_31 : decode cX1_weights 31 = .ok (.astore_n 3, 1) := dk_78 (dk_at dksX1_weights_1 8 rfl rfl)
theorem dX1_weights_32 : decode cX1_weights 32 = .ok (.iload_n 1, 1) := dk_27 (dk_at dksX1_weights_1 9 rfl rfl)
theorem dX1_weights_33 : decode cX1_weights 33 = .ok (.aload_n 3, 1) := dk_45 (dk_at dksX1_weights_1 10 rfl rfl)
theorem dX1_weights_34 : decode cX1_weights 34 = .ok (.getfield 139, 3) := dk_180 0 139 (dk_at dksX1_weights_1 11 rfl rfl)
theorem dX1_weights_37 : decode cX1_weights 37 = .ok (.iadd, 1) := dk_96 (dk_at dksX1_weights_1 14 rfl rfl)
theorem dX1_weights_38 : decode cX1_weights 38 = .ok (.istore_n 1, 1) := dk_60 (dk_at dksX1_weights_1 15 rfl rfl)
theorem dX1_weights_39 : decode cX1_weights 39 = .ok (.goto (-26), 3) := dk_167 255 230 (dk_at dksX1_weights_1 16 rfl rfl)
theorem dX1_weights_42 : decode cX1_weights 42 = .ok (.iload_n 1, 1) := dk_27 (dk_at dksX1_weights_1 19 rfl rfl)
theorem dX1_weights_43 : decode cX1_weights 43 = .ok (.ireturn, 1) := dk_172 (dk_at dksX1_weights_1 20 rfl rfl)
abbrev cX1_emptyHuts : ByteArray := prog_1_method_42_code
def yX1_emptyHuts : MethodName := ⟨RX1, "emptyHuts", "()I"⟩
def dkwX1_emptyHuts_1 : List UInt8 := [182, 0, 164, 182, 1, 44, 153, 0, 7, 4, 167, 0, 4, 3, 96, 60, 132, 2, 1, 167, 255, 217, 27, 172]
abbrev dktX1_emptyHuts_1 : List UInt8 := dkwX1_emptyHuts_1 ++ []
def dkwX1_emptyHuts_0 : List UInt8 := [3, 60, 3, 61, 28, 42, 180, 0, 37, 180, 0, 168, 182, 0, 107, 162, 0, 31, 27, 42, 180, 0, 37, 28]
abbrev dktX1_emptyHuts_0 : List UInt8 := dkwX1_emptyHuts_0 ++ dktX1_emptyHuts_1
theorem dksX1_emptyHuts_0 : cX1_emptyHuts.data.toList.drop 0 = dktX1_emptyHuts_0 := by decide +kernel
theorem dksX1_emptyHuts_1 : cX1_emptyHuts.data.toList.drop 24 = dktX1_emptyHuts_1 := dk_seg dksX1_emptyHuts_0 24 rfl rfl
theorem dX1_emptyHuts_0 : decode cX1_emptyHuts 0 = .ok (.iconst 0, 1) := dk_3 (dk_at dksX1_emptyHuts_0 0 rfl rfl)
theorem dX1_emptyHuts_1 : decode cX1_emptyHuts 1 = .ok (.istore_n 1, 1) := dk_60 (dk_at dksX1_emptyHuts_0 1 rfl rfl)
theorem dX1_emptyHuts_2 : decode cX1_emptyHuts 2 = .ok (.iconst 0, 1) := dk_3 (dk_at dksX1_emptyHuts_0 2 rfl rfl)
theorem dX1_emptyHuts_3 : decode cX1_emptyHuts 3 = .ok (.istore_n 2, 1) := dk_61 (dk_at dksX1_emptyHuts_0 3 rfl rfl)
theorem dX1_emptyHuts_4 : decode cX1_emptyHuts 4 = .ok (.iload_n 2, 1) := dk_28 (dk_at dksX1_emptyHuts_0 4 rfl rfl)
theorem dX1_emptyHuts_5 : decode cX1_emptyHuts 5 = .ok (.aload_n 0, 1) := dk_42 (dk_at dksX1_emptyHuts_0 5 rfl rfl)
theorem dX1_emptyHuts_6 : decode cX1_emptyHuts 6 = .ok (.getfield 37, 3) := dk_180 0 37 (dk_at dksX1_emptyHuts_0 6 rfl rfl)
theorem dX1_emptyHuts_9 : decode cX1_emptyHuts 9 = .ok (.getfield 168, 3) := dk_180 0 168 (dk_at dksX1_emptyHuts_0 9 rfl rfl)
theorem dX1_emptyHuts_12 : decode cX1_emptyHuts 12 = .ok (.invokevirtual 107, 3) := dk_182 0 107 (dk_at dksX1_emptyHuts_0 12 rfl rfl)
theorem dX1_emptyHuts_15 : decode cX1_emptyHuts 15 = .ok (.if_icmp .ge 31, 3) := dk_162 0 31 (dk_at dksX1_emptyHuts_0 15 rfl rfl)
theorem dX1_emptyHuts_18 : decode cX1_emptyHuts 18 = .ok (.iload_n 1, 1) := dk_27 (dk_at dksX1_emptyHuts_0 18 rfl rfl)
theorem dX1_emptyHuts_19 : decode cX1_emptyHuts 19 = .ok (.aload_n 0, 1) := dk_42 (dk_at dksX1_emptyHuts_0 19 rfl rfl)
theorem dX1_emptyHuts_20 : decode cX1_emptyHuts 20 = .ok (.getfield 37, 3) := dk_180 0 37 (dk_at dksX1_emptyHuts_0 20 rfl rfl)
theorem dX1_emptyHuts_23 : decode cX1_emptyHuts 23 = .ok (.iload_n 2, 1) := dk_28 (dk_at dksX1_emptyHuts_0 23 rfl rfl)
theorem dX1_emptyHuts_24 : decode cX1_emptyHuts 24 = .ok (.invokevirtual 164, 3) := dk_182 0 164 (dk_at dksX1_emptyHuts_1 0 rfl rfl)
theorem dX1_emptyHuts_27 : decode cX1_emptyHuts 27 = .ok (.invokevirtual 300, 3) := dk_182 1 44 (dk_at dksX1_emptyHuts_1 3 rfl rfl)
theorem dX1_emptyHuts_30 : decode cX1_emptyHuts 30 = .ok (.ifCond .eq 7, 3) := dk_153 0 7 (dk_at dksX1_emptyHuts_1 6 rfl rfl)
theorem dX1_emptyHuts_33 : decode cX1_emptyHuts 33 = .ok (.iconst 1, 1) := dk_4 (dk_at dksX1_emptyHuts_1 9 rfl rfl)
theorem dX1_emptyHuts_34 : decode cX1_emptyHuts 34 = .ok (.goto 4, 3) := dk_167 0 4 (dk_at dksX1_emptyHuts_1 10 rfl rfl)
theorem dX1_emptyHuts_37 : decode cX1_emptyHuts 37 = .ok (.iconst 0, 1) := dk_3 (dk_at dksX1_emptyHuts_1 13 rfl rfl)
theorem dX1_emptyHuts_38 : decode cX1_emptyHuts 38 = .ok (.iadd, 1) := dk_96 (dk_at dksX1_emptyHuts_1 14 rfl rfl)
theorem dX1_emptyHuts_39 : decode cX1_emptyHuts 39 = .ok (.istore_n 1, 1) := dk_60 (dk_at dksX1_emptyHuts_1 15 rfl rfl)
theorem dX1_emptyHuts_40 : decode cX1_emptyHuts 40 = .ok (.iinc 2 1, 3) := dk_132 2 1 (dk_at dksX1_emptyHuts_1 16 rfl rfl)
theorem dX1_emptyHuts_43 : decode cX1_emptyHuts 43 = .ok (.goto (-39), 3) := dk_167 255 217 (dk_at dksX1_emptyHuts_1 19 rfl rfl)
theorem dX1_emptyHuts_46 : decode cX1_emptyHuts 46 = .ok (.iload_n 1, 1) := dk_27 (dk_at dksX1_emptyHuts_1 22 rfl rfl)
theorem dX1_emptyHuts_47 : decode cX1_emptyHuts 47 = .ok (.ireturn, 1) := dk_172 (dk_at dksX1_emptyHuts_1 23 rfl rfl)
abbrev cX1_meanDistance : ByteArray := prog_1_method_44_code
def yX1_meanDistance : MethodName := ⟨RX1, "meanDistance", "()D"⟩
def dkwX1_meanDistance_3 : List UInt8 := [111, 175]
abbrev dktX1_meanDistance_3 : List UInt8 := dkwX1_meanDistance_3 ++ []
def dkwX1_meanDistance_2 : List UInt8 := [96, 61, 132, 3, 1, 167, 255, 211, 28, 158, 0, 7, 4, 167, 0, 4, 3, 184, 1, 69, 27, 135, 28, 135]
abbrev dktX1_meanDistance_2 : List UInt8 := dkwX1_meanDistance_2 ++ dktX1_meanDistance_3
def dkwX1_meanDistance_1 : List UInt8 := [180, 0, 37, 29, 182, 0, 164, 182, 1, 66, 96, 60, 28, 42, 180, 0, 37, 29, 182, 0, 164, 182, 0, 179]
abbrev dktX1_meanDistance_1 : List UInt8 := dkwX1_meanDistance_1 ++ dktX1_meanDistance_2
def dkwX1_meanDistance_0 : List UInt8 := [3, 60, 3, 61, 3, 62, 29, 42, 180, 0, 37, 180, 0, 168, 182, 0, 107, 162, 0, 37, 27, 42]
abbrev dktX1_meanDistance_0 : List UInt8 := dkwX1_meanDistance_0 ++ dktX1_meanDistance_1
theorem dksX1_meanDistance_0 : cX1_meanDistance.data.toList.drop 0 = dktX1_meanDistance_0 := by decide +kernel
theorem dksX1_meanDistance_1 : cX1_meanDistance.data.toList.drop 22 = dktX1_meanDistance_1 := dk_seg dksX1_meanDistance_0 22 rfl rfl
theorem dksX1_meanDistance_2 : cX1_meanDistance.data.toList.drop 46 = dktX1_meanDistance_2 := dk_seg dksX1_meanDistance_1 24 rfl rfl
theorem dksX1_meanDistance_3 : cX1_meanDistance.data.toList.drop 70 = dktX1_meanDistance_3 := dk_seg dksX1_meanDistance_2 24 rfl rfl
theorem dX1_meanDistance_0 : decode cX1_meanDistance 0 = .ok (.iconst 0, 1) := dk_3 (dk_at dksX1_meanDistance_0 0 rfl rfl)
theorem dX1_meanDistance_1 : decode cX1_meanDistance 1 = .ok (.istore_n 1, 1) := dk_60 (dk_at dksX1_meanDistance_0 1 rfl rfl)
theorem dX1_meanDistance_2 : decode cX1_meanDistance 2 = .ok (.iconst 0, 1) := dk_3 (dk_at dksX1_meanDistance_0 2 rfl rfl)
theorem dX1_meanDistance_3 : decode cX1_meanDistance 3 = .ok (.istore_n 2, 1) := dk_61 (dk_at dksX1_meanDistance_0 3 rfl rfl)
theorem dX1_meanDistance_4 : decode cX1_meanDistance 4 = .ok (.iconst 0, 1) := dk_3 (dk_at dksX1_meanDistance_0 4 rfl rfl)
theorem dX1_meanDistance_5 : decode cX1_meanDistance 5 = .ok (.istore_n 3, 1) := dk_62 (dk_at dksX1_meanDistance_0 5 rfl rfl)
theorem dX1_meanDistance_6 : decode cX1_meanDistance 6 = .ok (.iload_n 3, 1) := dk_29 (dk_at dksX1_meanDistance_0 6 rfl rfl)
theorem dX1_meanDistance_7 : decode cX1_meanDistance 7 = .ok (.aload_n 0, 1) := dk_42 (dk_at dksX1_meanDistance_0 7 rfl rfl)
theorem dX1_meanDistance_8 : decode cX1_meanDistance 8 = .ok (.getfield 37, 3) := dk_180 0 37 (dk_at dksX1_meanDistance_0 8 rfl rfl)
theorem dX1_meanDistance_11 : decode cX1_meanDistance 11 = .ok (.getfield 168, 3) := dk_180 0 168 (dk_at dksX1_meanDistance_0 11 rfl rfl)
theorem dX1_meanDistance_14 : decode cX1_meanDistance 14 = .ok (.invokevirtual 107, 3) := dk_182 0 107 (dk_at dksX1_meanDistance_0 14 rfl rfl)
theorem dX1_meanDistance_17 : decode cX1_meanDistance 17 = .ok (.if_icmp .ge 37, 3) := dk_162 0 37 (dk_at dksX1_meanDistance_0 17 rfl rfl)
theorem dX1_meanDistance_20 : decode cX1_meanDistance 20 = .ok (.iload_n 1, 1) := dk_27 (dk_at dksX1_meanDistance_0 20 rfl rfl)
theorem dX1_meanDistance_21 : decode cX1_meanDistance 21 = .ok (.aload_n 0, 1) := dk_42 (dk_at dksX1_meanDistance_0 21 rfl rfl)
theorem dX1_meanDistance_22 : decode cX1_meanDistance 22 = .ok (.getfield 37, 3) := dk_180 0 37 (dk_at dksX1_meanDistance_1 0 rfl rfl)
theorem dX1_meanDistance_25 : decode cX1_meanDistance 25 = .ok (.iload_n 3, 1) := dk_29 (dk_at dksX1_meanDistance_1 3 rfl rfl)
theorem dX1_meanDistance_26 : decode cX1_meanDistance 26 = .ok (.invokevirtual 164, 3) := dk_182 0 164 (dk_at dksX1_meanDistance_1 4 rfl rfl)
theorem dX1_meanDistance_29 : decode cX1_meanDistance 29 = .ok (.invokevirtual 322, 3) := dk_182 1 66 (dk_at dksX1_meanDistance_1 7 rfl rfl)
theorem dX1_meanDistance_32 : decode cX1_meanDistance 32 = .ok (.iadd, 1) := dk_96 (dk_at dksX1_meanDistance_1 10 rfl rfl)
theorem dX1_meanDistance_33 : decode cX1_meanDistance 33 = .ok (.istore_n 1, 1) := dk_60 (dk_at dksX1_meanDistance_1 11 rfl rfl)
theorem dX1_meanDistance_34 : decode cX1_meanDistance 34 = .ok (.iload_n 2, 1) := dk_28 (dk_at dksX1_meanDistance_1 12 rfl rfl)
theorem dX1_meanDistance_35 : decode cX1_meanDistance 35 = .ok (.aload_n 0, 1) := dk_42 (dk_at dksX1_meanDistance_1 13 rfl rfl)
theorem dX1_meanDistance_36 : decode cX1_meanDistance 36 = .ok (.getfield 37, 3) := dk_180 0 37 (dk_at dksX1_meanDistance_1 14 rfl rfl)
theorem dX1_meanDistance_39 : decode cX1_meanDistance 39 = .ok (.iload_n 3, 1) := dk_29 (dk_at dksX1_meanDistance_1 17 rfl rfl)
theorem dX1_meanDistance_40 : decode cX1_meanDistance 40 = .ok (.invokevirtual 164, 3) := dk_182 0 164 (dk_at dksX1_meanDistance_1 18 rfl rfl)
theorem dX1_meanDistance_43 : decode cX1_meanDistance 43 = .ok (.invokevirtual 179, 3) := dk_182 0 179 (dk_at dksX1_meanDistance_1 21 rfl rfl)
theorem dX1_meanDistance_46 : decode cX1_meanDistance 46 = .ok (.iadd, 1) := dk_96 (dk_at dksX1_meanDistance_2 0 rfl rfl)
theorem dX1_meanDistance_47 : decode cX1_meanDistance 47 = .ok (.istore_n 2, 1) := dk_61 (dk_at dksX1_meanDistance_2 1 rfl rfl)
theorem dX1_meanDistance_48 : decode cX1_meanDistance 48 = .ok (.iinc 3 1, 3) := dk_132 3 1 (dk_at dksX1_meanDistance_2 2 rfl rfl)
theorem dX1_meanDistance_51 : decode cX1_meanDistance 51 = .ok (.goto (-45), 3) := dk_167 255 211 (dk_at dksX1_meanDistance_2 5 rfl rfl)
theorem dX1_meanDistance_54 : decode cX1_meanDistance 54 = .ok (.iload_n 2, 1) := dk_28 (dk_at dksX1_meanDistance_2 8 rfl rfl)
theorem dX1_meanDistance_55 : decode cX1_meanDistance 55 = .ok (.ifCond .le 7, 3) := dk_158 0 7 (dk_at dksX1_meanDistance_2 9 rfl rfl)
theorem dX1_meanDistance_58 : decode cX1_meanDistance 58 = .ok (.iconst 1, 1) := dk_4 (dk_at dksX1_meanDistance_2 12 rfl rfl)
theorem dX1_meanDistance_59 : decode cX1_meanDistance 59 = .ok (.goto 4, 3) := dk_167 0 4 (dk_at dksX1_meanDistance_2 13 rfl rfl)
theorem dX1_meanDistance_62 : decode cX1_meanDistance 62 = .ok (.iconst 0, 1) := dk_3 (dk_at dksX1_meanDistance_2 16 rfl rfl)
theorem dX1_meanDistance_63 : decode cX1_meanDistance 63 = .ok (.invokestatic 325, 3) := dk_184 1 69 (dk_at dksX1_meanDistance_2 17 rfl rfl)
theorem dX1_meanDistance_66 : decode cX1_meanDistance 66 = .ok (.iload_n 1, 1) := dk_27 (dk_at dksX1_meanDistance_2 20 rfl rfl)
theorem dX1_meanDistance_67 : decode cX1_meanDistance 67 = .ok (.i2d, 1) := dk_135 (dk_at dksX1_meanDistance_2 21 rfl rfl)
theorem dX1_meanDistance_68 : decode cX1_meanDistance 68 = .ok (.iload_n 2, 1) := dk_28 (dk_at dksX1_meanDistance_2 22 rfl rfl)
theorem dX1_meanDistance_69 : decode cX1_meanDistance 69 = .ok (.i2d, 1) := dk_135 (dk_at dksX1_meanDistance_2 23 rfl rfl)
theorem dX1_meanDistance_70 : decode cX1_meanDistance 70 = .ok (.ddiv, 1) := dk_111 (dk_at dksX1_meanDistance_3 0 rfl rfl)
theorem dX1_meanDistance_71 : decode cX1_meanDistance 71 = .ok (.dreturn, 1) := dk_175 (dk_at dksX1_meanDistance_3 1 rfl rfl)
abbrev cX1_checkNumbers : ByteArray := prog_1_method_6_code
def yX1_checkNumbers : MethodName := ⟨RX1, "checkNumbers", "(Z)V"⟩
def dkwX1_checkNumbers_0 : List UInt8 := [26, 154, 0, 11, 187, 0, 16, 89, 183, 0, 18, 191, 177]
abbrev dktX1_checkNumbers_0 : List UInt8 := dkwX1_checkNumbers_0 ++ []
theorem dksX1_checkNumbers_0 : cX1_checkNumbers.data.toList.drop 0 = dktX1_checkNumbers_0 := by decide +kernel
theorem dX1_checkNumbers_0 : decode cX1_checkNumbers 0 = .ok (.iload_n 0, 1) := dk_26 (dk_at dksX1_checkNumbers_0 0 rfl rfl)
theorem dX1_checkNumbers_1 : decode cX1_checkNumbers 1 = .ok (.ifCond .ne 11, 3) := dk_154 0 11 (dk_at dksX1_checkNumbers_0 1 rfl rfl)
theorem dX1_checkNumbers_4 : decode cX1_checkNumbers 4 = .ok (.new 16, 3) := dk_187 0 16 (dk_at dksX1_checkNumbers_0 4 rfl rfl)
theorem dX1_checkNumbers_7 : decode cX1_checkNumbers 7 = .ok (.dup, 1) := dk_89 (dk_at dksX1_checkNumbers_0 7 rfl rfl)
theorem dX1_checkNumbers_8 : decode cX1_checkNumbers 8 = .ok (.invokespecial 18, 3) := dk_183 0 18 (dk_at dksX1_checkNumbers_0 8 rfl rfl)
theorem dX1_checkNumbers_11 : decode cX1_checkNumbers 11 = .ok (.athrow, 1) := dk_191 (dk_at dksX1_checkNumbers_0 11 rfl rfl)
theorem dX1_checkNumbers_12 : decode cX1_checkNumbers 12 = .ok (.return_, 1) := dk_177 (dk_at dksX1_checkNumbers_0 12 rfl rfl)
abbrev cX1_strayShare : ByteArray := prog_1_method_45_code
def yX1_strayShare : MethodName := ⟨RX1, "strayShare", "()F"⟩
def dkwX1_strayShare_1 : List UInt8 := [180, 0, 37, 182, 0, 237, 182, 0, 107, 134, 42, 180, 0, 37, 180, 0, 103, 182, 0, 107, 134, 110, 174]
abbrev dktX1_strayShare_1 : List UInt8 := dkwX1_strayShare_1 ++ []
def dkwX1_strayShare_0 : List UInt8 := [42, 180, 0, 37, 180, 0, 103, 182, 1, 72, 154, 0, 7, 4, 167, 0, 4, 3, 184, 1, 69, 42]
abbrev dktX1_strayShare_0 : List UInt8 := dkwX1_strayShare_0 ++ dktX1_strayShare_1
theorem dksX1_strayShare_0 : cX1_strayShare.data.toList.drop 0 = dktX1_strayShare_0 := by decide +kernel
theorem dksX1_strayShare_1 : cX1_strayShare.data.toList.drop 22 = dktX1_strayShare_1 := dk_seg dksX1_strayShare_0 22 rfl rfl
theorem dX1_strayShare_0 : decode cX1_strayShare 0 = .ok (.aload_n 0, 1) := dk_42 (dk_at dksX1_strayShare_0 0 rfl rfl)
theorem dX1_strayShare_1 : decode cX1_strayShare 1 = .ok (.getfield 37, 3) := dk_180 0 37 (dk_at dksX1_strayShare_0 1 rfl rfl)
theorem dX1_strayShare_4 : decode cX1_strayShare 4 = .ok (.getfield 103, 3) := dk_180 0 103 (dk_at dksX1_strayShare_0 4 rfl rfl)
theorem dX1_strayShare_7 : decode cX1_strayShare 7 = .ok (.invokevirtual 328, 3) := dk_182 1 72 (dk_at dksX1_strayShare_0 7 rfl rfl)
theorem dX1_strayShare_10 : decode cX1_strayShare 10 = .ok (.ifCond .ne 7, 3) := dk_154 0 7 (dk_at dksX1_strayShare_0 10 rfl rfl)
theorem dX1_strayShare_13 : decode cX1_strayShare 13 = .ok (.iconst 1, 1) := dk_4 (dk_at dksX1_strayShare_0 13 rfl rfl)
theorem dX1_strayShare_14 : decode cX1_strayShare 14 = .ok (.goto 4, 3) := dk_167 0 4 (dk_at dksX1_strayShare_0 14 rfl rfl)
theorem dX1_strayShare_17 : decode cX1_strayShare 17 = .ok (.iconst 0, 1) := dk_3 (dk_at dksX1_strayShare_0 17 rfl rfl)
theorem dX1_strayShare_18 : decode cX1_strayShare 18 = .ok (.invokestatic 325, 3) := dk_184 1 69 (dk_at dksX1_strayShare_0 18 rfl rfl)
theorem dX1_strayShare_21 : decode cX1_strayShare 21 = .ok (.aload_n 0, 1) := dk_42 (dk_at dksX1_strayShare_0 21 rfl rfl)
theorem dX1_strayShare_22 : decode cX1_strayShare 22 = .ok (.getfield 37, 3) := dk_180 0 37 (dk_at dksX1_strayShare_1 0 rfl rfl)
theorem dX1_strayShare_25 : decode cX1_strayShare 25 = .ok (.invokevirtual 237, 3) := dk_182 0 237 (dk_at dksX1_strayShare_1 3 rfl rfl)
theorem dX1_strayShare_28 : decode cX1_strayShare 28 = .ok (.invokevirtual 107, 3) := dk_182 0 107 (dk_at dksX1_strayShare_1 6 rfl rfl)
theorem dX1_strayShare_31 : decode cX1_strayShare 31 = .ok (.i2f, 1) := dk_134 (dk_at dksX1_strayShare_1 9 rfl rfl)
theorem dX1_strayShare_32 : decode cX1_strayShare 32 = .ok (.aload_n 0, 1) := dk_42 (dk_at dksX1_strayShare_1 10 rfl rfl)
theorem dX1_strayShare_33 : decode cX1_strayShare 33 = .ok (.getfield 37, 3) := dk_180 0 37 (dk_at dksX1_strayShare_1 11 rfl rfl)
theorem dX1_strayShare_36 : decode cX1_strayShare 36 = .ok (.getfield 103, 3) := dk_180 0 103 (dk_at dksX1_strayShare_1 14 rfl rfl)
theorem dX1_strayShare_39 : decode cX1_strayShare 39 = .ok (.invokevirtual 107, 3) := dk_182 0 107 (dk_at dksX1_strayShare_1 17 rfl rfl)
theorem dX1_strayShare_42 : decode cX1_strayShare 42 = .ok (.i2f, 1) := dk_134 (dk_at dksX1_strayShare_1 20 rfl rfl)
theorem dX1_strayShare_43 : decode cX1_strayShare 43 = .ok (.fdiv, 1) := dk_110 (dk_at dksX1_strayShare_1 21 rfl rfl)
theorem dX1_strayShare_44 : decode cX1_strayShare 44 = .ok (.freturn, 1) := dk_174 (dk_at dksX1_strayShare_1 22 rfl rfl)
abbrev cX1_append : ByteArray := prog_1_method_46_code
def yX1_append : MethodName := ⟨RX1, "append", "(I)I"⟩
def dkwX1_append_5 : List UInt8 := [182, 1, 77, 87, 132, 3, 248, 167, 255, 224, 42, 180, 0, 51, 182, 1, 65, 172]
abbrev dktX1_append_5 : List UInt8 := dkwX1_append_5 ++ []
def dkwX1_append_4 : List UInt8 := [155, 0, 34, 27, 29, 124, 17, 0, 255, 126, 54, 4, 21, 4, 153, 0, 14, 42, 180, 0, 51, 21, 4, 146]
abbrev dktX1_append_4 : List UInt8 := dkwX1_append_4 ++ dktX1_append_5
def dkwX1_append_3 : List UInt8 := [182, 1, 65, 28, 96, 16, 60, 163, 0, 7, 4, 167, 0, 4, 3, 184, 1, 23, 16, 24, 62, 29]
abbrev dktX1_append_3 : List UInt8 := dkwX1_append_3 ++ dktX1_append_4
def dkwX1_append_2 : List UInt8 := [21, 4, 154, 0, 7, 3, 167, 0, 4, 4, 96, 61, 132, 3, 248, 167, 255, 199, 42, 180, 0, 51]
abbrev dktX1_append_2 : List UInt8 := dkwX1_append_2 ++ dktX1_append_3
def dkwX1_append_1 : List UInt8 := [21, 4, 133, 20, 1, 73, 20, 1, 75, 184, 0, 23, 153, 0, 7, 4, 167, 0, 4, 3, 184, 0, 27, 28]
abbrev dktX1_append_1 : List UInt8 := dkwX1_append_1 ++ dktX1_append_2
def dkwX1_append_0 : List UInt8 := [3, 61, 16, 24, 62, 29, 155, 0, 59, 27, 29, 124, 17, 0, 255, 126, 54, 4, 21, 4, 153, 0, 18]
abbrev dktX1_append_0 : List UInt8 := dkwX1_append_0 ++ dktX1_append_1
theorem dksX1_append_0 : cX1_append.data.toList.drop 0 = dktX1_append_0 := by decide +kernel
theorem dksX1_append_1 : cX1_append.data.toList.drop 23 = dktX1_append_1 := dk_seg dksX1_append_0 23 rfl rfl
theorem dksX1_append_2 : cX1_append.data.toList.drop 47 = dktX1_append_2 := dk_seg dksX1_append_1 24 rfl rfl
theorem dksX1_append_3 : cX1_append.data.toList.drop 69 = dktX1_append_3 := dk_seg dksX1_append_2 22 rfl rfl
theorem dksX1_append_4 : cX1_append.data.toList.drop 91 = dktX1_append_4 := dk_seg dksX1_append_3 22 rfl rfl
theorem dksX1_append_5 : cX1_append.data.toList.drop 115 = dktX1_append_5 := dk_seg dksX1_append_4 24 rfl rfl
theorem dX1_append_0 : decode cX1_append 0 = .ok (.iconst 0, 1) := dk_3 (dk_at dksX1_append_0 0 rfl rfl)
theorem dX1_append_1 : decode cX1_append 1 = .ok (.istore_n 2, 1) := dk_61 (dk_at dksX1_append_0 1 rfl rfl)
theorem dX1_append_2 : decode cX1_append 2 = .ok (.bipush 24, 2) := dk_16 24 (dk_at dksX1_append_0 2 rfl rfl)
theorem dX1_append_4 : decode cX1_append 4 = .ok (.istore_n 3, 1) := dk_62 (dk_at dksX1_append_0 4 rfl rfl)
theorem dX1_append_5 : decode cX1_append 5 = .ok (.iload_n 3, 1) := dk_29 (dk_at dksX1_append_0 5 rfl rfl)
theorem dX1_append_6 : decode cX1_append 6 = .ok (.ifCond .lt 59, 3) := dk_155 0 59 (dk_at dksX1_append_0 6 rfl rfl)
theorem dX1_append_9 : decode cX1_append 9 = .ok (.iload_n 1, 1) := dk_27 (dk_at dksX1_append_0 9 rfl rfl)
theorem dX1_append_10 : decode cX1_append 10 = .ok (.iload_n 3, 1) := dk_29 (dk_at dksX1_append_0 10 rfl rfl)
theorem dX1_append_11 : decode cX1_append 11 = .ok (.iushr, 1) := dk_124 (dk_at dksX1_append_0 11 rfl rfl)
theorem dX1_append_12 : decode cX1_append 12 = .ok (.sipush 255, 3) := dk_17 0 255 (dk_at dksX1_append_0 12 rfl rfl)
theorem dX1_append_15 : decode cX1_append 15 = .ok (.iand, 1) := dk_126 (dk_at dksX1_append_0 15 rfl rfl)
theorem dX1_append_16 : decode cX1_append 16 = .ok (.istore 4, 2) := dk_54 4 (dk_at dksX1_append_0 16 rfl rfl)
theorem dX1_append_18 : decode cX1_append 18 = .ok (.iload 4, 2) := dk_21 4 (dk_at dksX1_append_0 18 rfl rfl)
theorem dX1_append_20 : decode cX1_append 20 = .ok (.ifCond .eq 18, 3) := dk_153 0 18 (dk_at dksX1_append_0 20 rfl rfl)
theorem dX1_append_23 : decode cX1_append 23 = .ok (.iload 4, 2) := dk_21 4 (dk_at dksX1_append_1 0 rfl rfl)
theorem dX1_append_25 : decode cX1_append 25 = .ok (.i2l, 1) := dk_133 (dk_at dksX1_append_1 2 rfl rfl)
theorem dX1_append_26 : decode cX1_append 26 = .ok (.ldc2_w 329, 3) := dk_20 1 73 (dk_at dksX1_append_1 3 rfl rfl)
theorem dX1_append_29 : decode cX1_append 29 = .ok (.ldc2_w 331, 3) := dk_20 1 75 (dk_at dksX1_append_1 6 rfl rfl)
theorem dX1_append_32 : decode cX1_append 32 = .ok (.invokestatic 23, 3) := dk_184 0 23 (dk_at dksX1_append_1 9 rfl rfl)
theorem dX1_append_35 : decode cX1_append 35 = .ok (.ifCond .eq 7, 3) := dk_153 0 7 (dk_at dksX1_append_1 12 rfl rfl)
theorem dX1_append_38 : decode cX1_append 38 = .ok (.iconst 1, 1) := dk_4 (dk_at dksX1_append_1 15 rfl rfl)
theorem dX1_append_39 : decode cX1_append 39 = .ok (.goto 4, 3) := dk_167 0 4 (dk_at dksX1_append_1 16 rfl rfl)
theorem dX1_append_42 : decode cX1_append 42 = .ok (.iconst 0, 1) := dk_3 (dk_at dksX1_append_1 19 rfl rfl)
theorem dX1_append_43 : decode cX1_append 43 = .ok (.invokestatic 27, 3) := dk_184 0 27 (dk_at dksX1_append_1 20 rfl rfl)
theorem dX1_append_46 : decode cX1_append 46 = .ok (.iload_n 2, 1) := dk_28 (dk_at dksX1_append_1 23 rfl rfl)
theorem dX1_append_47 : decode cX1_append 47 = .ok (.iload 4, 2) := dk_21 4 (dk_at dksX1_append_2 0 rfl rfl)
theorem dX1_append_49 : decode cX1_append 49 = .ok (.ifCond .ne 7, 3) := dk_154 0 7 (dk_at dksX1_append_2 2 rfl rfl)
theorem dX1_append_52 : decode cX1_append 52 = .ok (.iconst 0, 1) := dk_3 (dk_at dksX1_append_2 5 rfl rfl)
theorem dX1_append_53 : decode cX1_append 53 = .ok (.goto 4, 3) := dk_167 0 4 (dk_at dksX1_append_2 6 rfl rfl)
theorem dX1_append_56 : decode cX1_append 56 = .ok (.iconst 1, 1) := dk_4 (dk_at dksX1_append_2 9 rfl rfl)
theorem dX1_append_57 : decode cX1_append 57 = .ok (.iadd, 1) := dk_96 (dk_at dksX1_append_2 10 rfl rfl)
theorem dX1_append_58 : decode cX1_append 58 = .ok (.istore_n 2, 1) := dk_61 (dk_at dksX1_append_2 11 rfl rfl)
theorem dX1_append_59 : decode cX1_append 59 = .ok (.iinc 3 (-8), 3) := dk_132 3 248 (dk_at dksX1_append_2 12 rfl rfl)
theorem dX1_append_62 : decode cX1_append 62 = .ok (.goto (-57), 3) := dk_167 255 199 (dk_at dksX1_append_2 15 rfl rfl)
theorem dX1_append_65 : decode cX1_append 65 = .ok (.aload_n 0, 1) := dk_42 (dk_at dksX1_append_2 18 rfl rfl)
theorem dX1_append_66 : decode cX1_append 66 = .ok (.getfield 51, 3) := dk_180 0 51 (dk_at dksX1_append_2 19 rfl rfl)
theorem dX1_append_69 : decode cX1_append 69 = .ok (.invokevirtual 321, 3) := dk_182 1 65 (dk_at dksX1_append_3 0 rfl rfl)
theorem dX1_append_72 : decode cX1_append 72 = .ok (.iload_n 2, 1) := dk_28 (dk_at dksX1_append_3 3 rfl rfl)
theorem dX1_append_73 : decode cX1_append 73 = .ok (.iadd, 1) := dk_96 (dk_at dksX1_append_3 4 rfl rfl)
theorem dX1_append_74 : decode cX1_append 74 = .ok (.bipush 60, 2) := dk_16 60 (dk_at dksX1_append_3 5 rfl rfl)
theorem dX1_append_76 : decode cX1_append 76 = .ok (.if_icmp .gt 7, 3) := dk_163 0 7 (dk_at dksX1_append_3 7 rfl rfl)
theorem dX1_append_79 : decode cX1_append 79 = .ok (.iconst 1, 1) := dk_4 (dk_at dksX1_append_3 10 rfl rfl)
theorem dX1_append_80 : decode cX1_append 80 = .ok (.goto 4, 3) := dk_167 0 4 (dk_at dksX1_append_3 11 rfl rfl)
theorem dX1_append_83 : decode cX1_append 83 = .ok (.iconst 0, 1) := dk_3 (dk_at dksX1_append_3 14 rfl rfl)
theorem dX1_append_84 : decode cX1_append 84 = .ok (.invokestatic 279, 3) := dk_184 1 23 (dk_at dksX1_append_3 15 rfl rfl)
theorem dX1_append_87 : decode cX1_append 87 = .ok (.bipush 24, 2) := dk_16 24 (dk_at dksX1_append_3 18 rfl rfl)
theorem dX1_append_89 : decode cX1_append 89 = .ok (.istore_n 3, 1) := dk_62 (dk_at dksX1_append_3 20 rfl rfl)
theorem dX1_append_90 : decode cX1_append 90 = .ok (.iload_n 3, 1) := dk_29 (dk_at dksX1_append_3 21 rfl rfl)
theorem dX1_append_91 : decode cX1_append 91 = .ok (.ifCond .lt 34, 3) := dk_155 0 34 (dk_at dksX1_append_4 0 rfl rfl)
theorem dX1_append_94 : decode cX1_append 94 = .ok (.iload_n 1, 1) := dk_27 (dk_at dksX1_append_4 3 rfl rfl)
theorem dX1_append_95 : decode cX1_append 95 = .ok (.iload_n 3, 1) := dk_29 (dk_at dksX1_append_4 4 rfl rfl)
theorem dX1_append_96 : decode cX1_append 96 = .ok (.iushr, 1) := dk_124 (dk_at dksX1_append_4 5 rfl rfl)
theorem dX1_append_97 : decode cX1_append 97 = .ok (.sipush 255, 3) := dk_17 0 255 (dk_at dksX1_append_4 6 rfl rfl)
theorem dX1_append_100 : decode cX1_append 100 = .ok (.iand, 1) := dk_126 (dk_at dksX1_append_4 9 rfl rfl)
theorem dX1_append_101 : decode cX1_append 101 = .ok (.istore 4, 2) := dk_54 4 (dk_at dksX1_append_4 10 rfl rfl)
theorem dX1_append_103 : decode cX1_append 103 = .ok (.iload 4, 2) := dk_21 4 (dk_at dksX1_append_4 12 rfl rfl)
theorem dX1_append_105 : decode cX1_append 105 = .ok (.ifCond .eq 14, 3) := dk_153 0 14 (dk_at dksX1_append_4 14 rfl rfl)
theorem dX1_append_108 : decode cX1_append 108 = .ok (.aload_n 0, 1) := dk_42 (dk_at dksX1_append_4 17 rfl rfl)
theorem dX1_append_109 : decode cX1_append 109 = .ok (.getfield 51, 3) := dk_180 0 51 (dk_at dksX1_append_4 18 rfl rfl)
theorem dX1_append_112 : decode cX1_append 112 = .ok (.iload 4, 2) := dk_21 4 (dk_at dksX1_append_4 21 rfl rfl)
theorem dX1_append_114 : decode cX1_append 114 = .ok (.i2c, 1) := dk_146 (dk_at dksX1_append_4 23 rfl rfl)
theorem dX1_append_115 : decode cX1_append 115 = .ok (.invokevirtual 333, 3) := dk_182 1 77 (dk_at dksX1_append_5 0 rfl rfl)
theorem dX1_append_118 : decode cX1_append 118 = .ok (.pop, 1) := dk_87 (dk_at dksX1_append_5 3 rfl rfl)
theorem dX1_append_119 : decode cX1_append 119 = .ok (.iinc 3 (-8), 3) := dk_132 3 248 (dk_at dksX1_append_5 4 rfl rfl)
theorem dX1_append_122 : decode cX1_append 122 = .ok (.goto (-32), 3) := dk_167 255 224 (dk_at dksX1_append_5 7 rfl rfl)
theorem dX1_append_125 : decode cX1_append 125 = .ok (.aload_n 0, 1) := dk_42 (dk_at dksX1_append_5 10 rfl rfl)
theorem dX1_append_126 : decode cX1_append 126 = .ok (.getfield 51, 3) := dk_180 0 51 (dk_at dksX1_append_5 11 rfl rfl)
theorem dX1_append_129 : decode cX1_append 129 = .ok (.invokevirtual 321, 3) := dk_182 1 65 (dk_at dksX1_append_5 14 rfl rfl)
theorem dX1_append_132 : decode cX1_append 132 = .ok (.ireturn, 1) := dk_172 (dk_at dksX1_append_5 17 rfl rfl)
abbrev cX1_read : ByteArray := prog_1_method_48_code
def yX1_read : MethodName := ⟨RX1, "read", "()I"⟩
def dkwX1_read_4 : List UInt8 := [183, 0, 98, 191, 42, 44, 182, 0, 99, 29, 172]
abbrev dktX1_read_4 : List UInt8 := dkwX1_read_4 ++ []
def dkwX1_read_3 : List UInt8 := [181, 0, 92, 187, 0, 96, 89, 183, 0, 98, 191, 58, 4, 42, 29, 181, 0, 61, 187, 0, 96, 89]
abbrev dktX1_read_3 : List UInt8 := dkwX1_read_3 ++ dktX1_read_4
def dkwX1_read_2 : List UInt8 := [182, 0, 86, 54, 6, 132, 3, 1, 167, 255, 223, 167, 0, 39, 58, 4, 42, 29, 181, 0, 61, 42, 25, 4]
abbrev dktX1_read_2 : List UInt8 := dkwX1_read_2 ++ dktX1_read_3
def dkwX1_read_1 : List UInt8 := [185, 1, 36, 1, 0, 153, 0, 29, 25, 4, 185, 1, 41, 1, 0, 192, 0, 81, 58, 5, 25, 5, 44]
abbrev dktX1_read_1 : List UInt8 := dkwX1_read_1 ++ dktX1_read_2
def dkwX1_read_0 : List UInt8 := [42, 182, 1, 95, 76, 42, 180, 0, 37, 182, 0, 77, 77, 3, 62, 43, 182, 1, 32, 58, 4, 25, 4]
abbrev dktX1_read_0 : List UInt8 := dkwX1_read_0 ++ dktX1_read_1
theorem dksX1_read_0 : cX1_read.data.toList.drop 0 = dktX1_read_0 := by decide +kernel
theorem dksX1_read_1 : cX1_read.data.toList.drop 23 = dktX1_read_1 := dk_seg dksX1_read_0 23 rfl rfl
theorem dksX1_read_2 : cX1_read.data.toList.drop 46 = dktX1_read_2 := dk_seg dksX1_read_1 23 rfl rfl
theorem dksX1_read_3 : cX1_read.data.toList.drop 70 = dktX1_read_3 := dk_seg dksX1_read_2 24 rfl rfl
theorem dksX1_read_4 : cX1_read.data.toList.drop 92 = dktX1_read_4 := dk_seg dksX1_read_3 22 rfl rfl
theorem dX1_read_0 : decode cX1_read 0 = .ok (.aload_n 0, 1) := dk_42 (dk_at dksX1_read_0 0 rfl rfl)
theorem dX1_read_1 : decode cX1_read 1 = .ok (.invokevirtual 351, 3) := dk_182 1 95 (dk_at dksX1_read_0 1 rfl rfl)
theorem dX1_read_4 : decode cX1_read 4 = .ok (.astore_n 1, 1) := dk_76 (dk_at dksX1_read_0 4 rfl rfl)
theorem dX1_read_5 : decode cX1_read 5 = .ok (.aload_n 0, 1) := dk_42 (dk_at dksX1_read_0 5 rfl rfl)
theorem dX1_read_6 : decode cX1_read 6 = .ok (.getfield 37, 3) := dk_180 0 37 (dk_at dksX1_read_0 6 rfl rfl)
theorem dX1_read_9 : decode cX1_read 9 = .ok (.invokevirtual 77, 3) := dk_182 0 77 (dk_at dksX1_read_0 9 rfl rfl)
theorem dX1_read_12 : decode cX1_read 12 = .ok (.astore_n 2, 1) := dk_77 (dk_at dksX1_read_0 12 rfl rfl)
theorem dX1_read_13 : decode cX1_read 13 = .ok (.iconst 0, 1) := dk_3 (dk_at dksX1_read_0 13 rfl rfl)
theorem dX1_read_14 : decode cX1_read 14 = .ok (.istore_n 3, 1) := dk_62 (dk_at dksX1_read_0 14 rfl rfl)
theorem dX1_read_15 : decode cX1_read 15 = .ok (.aload_n 1, 1) := dk_43 (dk_at dksX1_read_0 15 rfl rfl)
theorem dX1_read_16 : decode cX1_read 16 = .ok (.invokevirtual 288, 3) := dk_182 1 32 (dk_at dksX1_read_0 16 rfl rfl)
theorem dX1_read_19 : decode cX1_read 19 = .ok (.astore 4, 2) := dk_58 4 (dk_at dksX1_read_0 19 rfl rfl)
theorem dX1_read_21 : decode cX1_read 21 = .ok (.aload 4, 2) := dk_25 4 (dk_at dksX1_read_0 21 rfl rfl)
theorem dX1_read_23 : decode cX1_read 23 = .ok (.invokeinterface 292 1, 5) := by decide +kernel
theorem dX1_read_28 : decode cX1_read 28 = .ok (.ifCond .eq 29, 3) := dk_153 0 29 (dk_at dksX1_read_1 5 rfl rfl)
theorem dX1_read_31 : decode cX1_read 31 = .ok (.aload 4, 2) := dk_25 4 (dk_at dksX1_read_1 8 rfl rfl)
theorem dX1_read_33 : decode cX1_read 33 = .ok (.invokeinterface 297 1, 5) := by decide +kernel
theorem dX1_read_38 : decode cX1_read 38 = .ok (.checkcast 81, 3) := dk_192 0 81 (dk_at dksX1_read_1 15 rfl rfl)
theorem dX1_read_41 : decode cX1_read 41 = .ok (.astore 5, 2) := dk_58 5 (dk_at dksX1_read_1 18 rfl rfl)
theorem dX1_read_43 : decode cX1_read 43 = .ok (.aload 5, 2) := dk_25 5 (dk_at dksX1_read_1 20 rfl rfl)
theorem dX1_read_45 : decode cX1_read 45 = .ok (.aload_n 2, 1) := dk_44 (dk_at dksX1_read_1 22 rfl rfl)
theorem dX1_read_46 : decode cX1_read 46 = .ok (.invokevirtual 86, 3) := dk_182 0 86 (dk_at dksX1_read_2 0 rfl rfl)
theorem dX1_read_49 : decode cX1_read 49 = .ok (.istore 6, 2) := dk_54 6 (dk_at dksX1_read_2 3 rfl rfl)
theorem dX1_read_51 : decode cX1_read 51 = .ok (.iinc 3 1, 3) := dk_132 3 1 (dk_at dksX1_read_2 5 rfl rfl)
theorem dX1_read_54 : decode cX1_read 54 = .ok (.goto (-33), 3) := dk_167 255 223 (dk_at dksX1_read_2 8 rfl rfl)
theorem dX1_read_57 : decode cX1_read 57 = .ok (.goto 39, 3) := dk_167 0 39 (dk_at dksX1_read_2 11 rfl rfl)
theorem dX1_read_60 : decode cX1_read 60 = .ok (.astore 4, 2) := dk_58 4 (dk_at dksX1_read_2 14 rfl rfl)
theorem dX1_read_62 : decode cX1_read 62 = .ok (.aload_n 0, 1) := dk_42 (dk_at dksX1_read_2 16 rfl rfl)
theorem dX1_read_63 : decode cX1_read 63 = .ok (.iload_n 3, 1) := dk_29 (dk_at dksX1_read_2 17 rfl rfl)
theorem dX1_read_64 : decode cX1_read 64 = .ok (.putfield 61, 3) := dk_181 0 61 (dk_at dksX1_read_2 18 rfl rfl)
theorem dX1_read_67 : decode cX1_read 67 = .ok (.aload_n 0, 1) := dk_42 (dk_at dksX1_read_2 21 rfl rfl)
theorem dX1_read_68 : decode cX1_read 68 = .ok (.aload 4, 2) := dk_25 4 (dk_at dksX1_read_2 22 rfl rfl)
theorem dX1_read_70 : decode cX1_read 70 = .ok (.putfield 92, 3) := dk_181 0 92 (dk_at dksX1_read_3 0 rfl rfl)
theorem dX1_read_73 : decode cX1_read 73 = .ok (.new 96, 3) := dk_187 0 96 (dk_at dksX1_read_3 3 rfl rfl)
theorem dX1_read_76 : decode cX1_read 76 = .ok (.dup, 1) := dk_89 (dk_at dksX1_read_3 6 rfl rfl)
theorem dX1_read_77 : decode cX1_read 77 = .ok (.invokespecial 98, 3) := dk_183 0 98 (dk_at dksX1_read_3 7 rfl rfl)
theorem dX1_read_80 : decode cX1_read 80 = .ok (.athrow, 1) := dk_191 (dk_at dksX1_read_3 10 rfl rfl)
theorem dX1_read_81 : decode cX1_read 81 = .ok (.astore 4, 2) := dk_58 4 (dk_at dksX1_read_3 11 rfl rfl)
theorem dX1_read_83 : decode cX1_read 83 = .ok (.aload_n 0, 1) := dk_42 (dk_at dksX1_read_3 13 rfl rfl)
theorem dX1_read_84 : decode cX1_read 84 = .ok (.iload_n 3, 1) := dk_29 (dk_at dksX1_read_3 14 rfl rfl)
theorem dX1_read_85 : decode cX1_read 85 = .ok (.putfield 61, 3) := dk_181 0 61 (dk_at dksX1_read_3 15 rfl rfl)
theorem dX1_read_88 : decode cX1_read 88 = .ok (.new 96, 3) := dk_187 0 96 (dk_at dksX1_read_3 18 rfl rfl)
theorem dX1_read_91 : decode cX1_read 91 = .ok (.dup, 1) := dk_89 (dk_at dksX1_read_3 21 rfl rfl)
theorem dX1_read_92 : decode cX1_read 92 = .ok (.invokespecial 98, 3) := dk_183 0 98 (dk_at dksX1_read_4 0 rfl rfl)
theorem dX1_read_95 : decode cX1_read 95 = .ok (.athrow, 1) := dk_191 (dk_at dksX1_read_4 3 rfl rfl)
theorem dX1_read_96 : decode cX1_read 96 = .ok (.aload_n 0, 1) := dk_42 (dk_at dksX1_read_4 4 rfl rfl)
theorem dX1_read_97 : decode cX1_read 97 = .ok (.aload_n 2, 1) := dk_44 (dk_at dksX1_read_4 5 rfl rfl)
theorem dX1_read_98 : decode cX1_read 98 = .ok (.invokevirtual 99, 3) := dk_182 0 99 (dk_at dksX1_read_4 6 rfl rfl)
theorem dX1_read_101 : decode cX1_read 101 = .ok (.iload_n 3, 1) := dk_29 (dk_at dksX1_read_4 9 rfl rfl)
theorem dX1_read_102 : decode cX1_read 102 = .ok (.ireturn, 1) := dk_172 (dk_at dksX1_read_4 10 rfl rfl)
abbrev cX1_takeOrders : ByteArray := prog_1_method_47_code
def yX1_takeOrders : MethodName := ⟨RX1, "takeOrders", "()Ljava/util/ArrayList;"⟩
def dkwX1_takeOrders_1 : List UInt8 := [182, 1, 86, 176, 77, 42, 44, 181, 1, 91, 187, 0, 1, 89, 183, 0, 3, 191]
abbrev dktX1_takeOrders_1 : List UInt8 := dkwX1_takeOrders_1 ++ []
def dkwX1_takeOrders_0 : List UInt8 := [187, 1, 81, 89, 42, 180, 0, 51, 183, 1, 83, 76, 42, 187, 0, 48, 89, 183, 0, 50, 181, 0, 51, 43]
abbrev dktX1_takeOrders_0 : List UInt8 := dkwX1_takeOrders_0 ++ dktX1_takeOrders_1
theorem dksX1_takeOrders_0 : cX1_takeOrders.data.toList.drop 0 = dktX1_takeOrders_0 := by decide +kernel
theorem dksX1_takeOrders_1 : cX1_takeOrders.data.toList.drop 24 = dktX1_takeOrders_1 := dk_seg dksX1_takeOrders_0 24 rfl rfl
theorem dX1_takeOrders_0 : decode cX1_takeOrders 0 = .ok (.new 337, 3) := dk_187 1 81 (dk_at dksX1_takeOrders_0 0 rfl rfl)
theorem dX1_takeOrders_3 : decode cX1_takeOrders 3 = .ok (.dup, 1) := dk_89 (dk_at dksX1_takeOrders_0 3 rfl rfl)
theorem dX1_takeOrders_4 : decode cX1_takeOrders 4 = .ok (.aload_n 0, 1) := dk_42 (dk_at dksX1_takeOrders_0 4 rfl rfl)
theorem dX1_takeOrders_5 : decode cX1_takeOrders 5 = .ok (.getfield 51, 3) := dk_180 0 51 (dk_at dksX1_takeOrders_0 5 rfl rfl)
theorem dX1_takeOrders_8 : decode cX1_takeOrders 8 = .ok (.invokespecial 339, 3) := dk_183 1 83 (dk_at dksX1_takeOrders_0 8 rfl rfl)
theorem dX1_takeOrders_11 : decode cX1_takeOrders 11 = .ok (.astore_n 1, 1) := dk_76 (dk_at dksX1_takeOrders_0 11 rfl rfl)
theorem dX1_takeOrders_12 : decode cX1_takeOrders 12 = .ok (.aload_n 0, 1) := dk_42 (dk_at dksX1_takeOrders_0 12 rfl rfl)
theorem dX1_takeOrders_13 : decode cX1_takeOrders 13 = .ok (.new 48, 3) := dk_187 0 48 (dk_at dksX1_takeOrders_0 13 rfl rfl)
theorem dX1_takeOrders_16 : decode cX1_takeOrders 16 = .ok (.dup, 1) := dk_89 (dk_at dksX1_takeOrders_0 16 rfl rfl)
theorem dX1_takeOrders_17 : decode cX1_takeOrders 17 = .ok (.invokespecial 50, 3) := dk_183 0 50 (dk_at dksX1_takeOrders_0 17 rfl rfl)
theorem dX1_takeOrders_20 : decode cX1_takeOrders 20 = .ok (.putfield 51, 3) := dk_181 0 51 (dk_at dksX1_takeOrders_0 20 rfl rfl)
theorem dX1_takeOrders_23 : decode cX1_takeOrders 23 = .ok (.aload_n 1, 1) := dk_43 (dk_at dksX1_takeOrders_0 23 rfl rfl)
theorem dX1_takeOrders_24 : decode cX1_takeOrders 24 = .ok (.invokevirtual 342, 3) := dk_182 1 86 (dk_at dksX1_takeOrders_1 0 rfl rfl)
theorem dX1_takeOrders_27 : decode cX1_takeOrders 27 = .ok (.areturn, 1) := dk_176 (dk_at dksX1_takeOrders_1 3 rfl rfl)
theorem dX1_takeOrders_28 : decode cX1_takeOrders 28 = .ok (.astore_n 2, 1) := dk_77 (dk_at dksX1_takeOrders_1 4 rfl rfl)
theorem dX1_takeOrders_29 : decode cX1_takeOrders 29 = .ok (.aload_n 0, 1) := dk_42 (dk_at dksX1_takeOrders_1 5 rfl rfl)
theorem dX1_takeOrders_30 : decode cX1_takeOrders 30 = .ok (.aload_n 2, 1) := dk_44 (dk_at dksX1_takeOrders_1 6 rfl rfl)
theorem dX1_takeOrders_31 : decode cX1_takeOrders 31 = .ok (.putfield 347, 3) := dk_181 1 91 (dk_at dksX1_takeOrders_1 7 rfl rfl)
theorem dX1_takeOrders_34 : decode cX1_takeOrders 34 = .ok (.new 1, 3) := dk_187 0 1 (dk_at dksX1_takeOrders_1 10 rfl rfl)
theorem dX1_takeOrders_37 : decode cX1_takeOrders 37 = .ok (.dup, 1) := dk_89 (dk_at dksX1_takeOrders_1 13 rfl rfl)
theorem dX1_takeOrders_38 : decode cX1_takeOrders 38 = .ok (.invokespecial 3, 3) := dk_183 0 3 (dk_at dksX1_takeOrders_1 14 rfl rfl)
theorem dX1_takeOrders_41 : decode cX1_takeOrders 41 = .ok (.athrow, 1) := dk_191 (dk_at dksX1_takeOrders_1 17 rfl rfl)
abbrev cX1_errorPosition : ByteArray := prog_1_method_49_code
def yX1_errorPosition : MethodName := ⟨RX1, "errorPosition", "()I"⟩
def dkwX1_errorPosition_0 : List UInt8 := [42, 180, 1, 91, 198, 0, 7, 4, 167, 0, 4, 3, 184, 0, 234, 42, 180, 1, 91, 180, 1, 98, 172]
abbrev dktX1_errorPosition_0 : List UInt8 := dkwX1_errorPosition_0 ++ []
theorem dksX1_errorPosition_0 : cX1_errorPosition.data.toList.drop 0 = dktX1_errorPosition_0 := by decide +kernel
theorem dX1_errorPosition_0 : decode cX1_errorPosition 0 = .ok (.aload_n 0, 1) := dk_42 (dk_at dksX1_errorPosition_0 0 rfl rfl)
theorem dX1_errorPosition_1 : decode cX1_errorPosition 1 = .ok (.getfield 347, 3) := dk_180 1 91 (dk_at dksX1_errorPosition_0 1 rfl rfl)
theorem dX1_errorPosition_4 : decode cX1_errorPosition 4 = .ok (.ifnull 7, 3) := dk_198 0 7 (dk_at dksX1_errorPosition_0 4 rfl rfl)
theorem dX1_errorPosition_7 : decode cX1_errorPosition 7 = .ok (.iconst 1, 1) := dk_4 (dk_at dksX1_errorPosition_0 7 rfl rfl)
theorem dX1_errorPosition_8 : decode cX1_errorPosition 8 = .ok (.goto 4, 3) := dk_167 0 4 (dk_at dksX1_errorPosition_0 8 rfl rfl)
theorem dX1_errorPosition_11 : decode cX1_errorPosition 11 = .ok (.iconst 0, 1) := dk_3 (dk_at dksX1_errorPosition_0 11 rfl rfl)
theorem dX1_errorPosition_12 : decode cX1_errorPosition 12 = .ok (.invokestatic 234, 3) := dk_184 0 234 (dk_at dksX1_errorPosition_0 12 rfl rfl)
theorem dX1_errorPosition_15 : decode cX1_errorPosition 15 = .ok (.aload_n 0, 1) := dk_42 (dk_at dksX1_errorPosition_0 15 rfl rfl)
theorem dX1_errorPosition_16 : decode cX1_errorPosition 16 = .ok (.getfield 347, 3) := dk_180 1 91 (dk_at dksX1_errorPosition_0 16 rfl rfl)
theorem dX1_errorPosition_19 : decode cX1_errorPosition 19 = .ok (.getfield 354, 3) := dk_180 1 98 (dk_at dksX1_errorPosition_0 19 rfl rfl)
theorem dX1_errorPosition_22 : decode cX1_errorPosition 22 = .ok (.ireturn, 1) := dk_172 (dk_at dksX1_errorPosition_0 22 rfl rfl)
abbrev cX1_refusedItem : ByteArray := prog_1_method_50_code
def yX1_refusedItem : MethodName := ⟨RX1, "refusedItem", "()I"⟩
def dkwX1_refusedItem_0 : List UInt8 := [42, 180, 0, 61, 2, 159, 0, 7, 4, 167, 0, 4, 3, 184, 0, 234, 42, 180, 0, 61, 172]
abbrev dktX1_refusedItem_0 : List UInt8 := dkwX1_refusedItem_0 ++ []
theorem dksX1_refusedItem_0 : cX1_refusedItem.data.toList.drop 0 = dktX1_refusedItem_0 := by decide +kernel
theorem dX1_refusedItem_0 : decode cX1_refusedItem 0 = .ok (.aload_n 0, 1) := dk_42 (dk_at dksX1_refusedItem_0 0 rfl rfl)
theorem dX1_refusedItem_1 : decode cX1_refusedItem 1 = .ok (.getfield 61, 3) := dk_180 0 61 (dk_at dksX1_refusedItem_0 1 rfl rfl)
theorem dX1_refusedItem_4 : decode cX1_refusedItem 4 = .ok (.iconst (-1), 1) := dk_2 (dk_at dksX1_refusedItem_0 4 rfl rfl)
theorem dX1_refusedItem_5 : decode cX1_refusedItem 5 = .ok (.if_icmp .eq 7, 3) := dk_159 0 7 (dk_at dksX1_refusedItem_0 5 rfl rfl)
theorem dX1_refusedItem_8 : decode cX1_refusedItem 8 = .ok (.iconst 1, 1) := dk_4 (dk_at dksX1_refusedItem_0 8 rfl rfl)
theorem dX1_refusedItem_9 : decode cX1_refusedItem 9 = .ok (.goto 4, 3) := dk_167 0 4 (dk_at dksX1_refusedItem_0 9 rfl rfl)
theorem dX1_refusedItem_12 : decode cX1_refusedItem 12 = .ok (.iconst 0, 1) := dk_3 (dk_at dksX1_refusedItem_0 12 rfl rfl)
theorem dX1_refusedItem_13 : decode cX1_refusedItem 13 = .ok (.invokestatic 234, 3) := dk_184 0 234 (dk_at dksX1_refusedItem_0 13 rfl rfl)
theorem dX1_refusedItem_16 : decode cX1_refusedItem 16 = .ok (.aload_n 0, 1) := dk_42 (dk_at dksX1_refusedItem_0 16 rfl rfl)
theorem dX1_refusedItem_17 : decode cX1_refusedItem 17 = .ok (.getfield 61, 3) := dk_180 0 61 (dk_at dksX1_refusedItem_0 17 rfl rfl)
theorem dX1_refusedItem_20 : decode cX1_refusedItem 20 = .ok (.ireturn, 1) := dk_172 (dk_at dksX1_refusedItem_0 20 rfl rfl)
abbrev cX1_undo : ByteArray := prog_1_method_51_code
def yX1_undo : MethodName := ⟨RX1, "undo", "()I"⟩
def dkwX1_undo_1 : List UInt8 := [182, 1, 102, 192, 0, 34, 181, 0, 37, 42, 180, 0, 44, 182, 0, 65, 172]
abbrev dktX1_undo_1 : List UInt8 := dkwX1_undo_1 ++ []
def dkwX1_undo_0 : List UInt8 := [42, 180, 0, 44, 182, 1, 101, 154, 0, 7, 4, 167, 0, 4, 3, 184, 1, 23, 42, 42, 180, 0, 44]
abbrev dktX1_undo_0 : List UInt8 := dkwX1_undo_0 ++ dktX1_undo_1
theorem dksX1_undo_0 : cX1_undo.data.toList.drop 0 = dktX1_undo_0 := by decide +kernel
theorem dksX1_undo_1 : cX1_undo.data.toList.drop 23 = dktX1_undo_1 := dk_seg dksX1_undo_0 23 rfl rfl
theorem dX1_undo_0 : decode cX1_undo 0 = .ok (.aload_n 0, 1) := dk_42 (dk_at dksX1_undo_0 0 rfl rfl)
theorem dX1_undo_1 : decode cX1_undo 1 = .ok (.getfield 44, 3) := dk_180 0 44 (dk_at dksX1_undo_0 1 rfl rfl)
theorem dX1_undo_4 : decode cX1_undo 4 = .ok (.invokevirtual 357, 3) := dk_182 1 101 (dk_at dksX1_undo_0 4 rfl rfl)
theorem dX1_undo_7 : decode cX1_undo 7 = .ok (.ifCond .ne 7, 3) := dk_154 0 7 (dk_at dksX1_undo_0 7 rfl rfl)
theorem dX1_undo_10 : decode cX1_undo 10 = .ok (.iconst 1, 1) := dk_4 (dk_at dksX1_undo_0 10 rfl rfl)
theorem dX1_undo_11 : decode cX1_undo 11 = .ok (.goto 4, 3) := dk_167 0 4 (dk_at dksX1_undo_0 11 rfl rfl)
theorem dX1_undo_14 : decode cX1_undo 14 = .ok (.iconst 0, 1) := dk_3 (dk_at dksX1_undo_0 14 rfl rfl)
theorem dX1_undo_15 : decode cX1_undo 15 = .ok (.invokestatic 279, 3) := dk_184 1 23 (dk_at dksX1_undo_0 15 rfl rfl)
theorem dX1_undo_18 : decode cX1_undo 18 = .ok (.aload_n 0, 1) := dk_42 (dk_at dksX1_undo_0 18 rfl rfl)
theorem dX1_undo_19 : decode cX1_undo 19 = .ok (.aload_n 0, 1) := dk_42 (dk_at dksX1_undo_0 19 rfl rfl)
theorem dX1_undo_20 : decode cX1_undo 20 = .ok (.getfield 44, 3) := dk_180 0 44 (dk_at dksX1_undo_0 20 rfl rfl)
theorem dX1_undo_23 : decode cX1_undo 23 = .ok (.invokevirtual 358, 3) := dk_182 1 102 (dk_at dksX1_undo_1 0 rfl rfl)
theorem dX1_undo_26 : decode cX1_undo 26 = .ok (.checkcast 34, 3) := dk_192 0 34 (dk_at dksX1_undo_1 3 rfl rfl)
theorem dX1_undo_29 : decode cX1_undo 29 = .ok (.putfield 37, 3) := dk_181 0 37 (dk_at dksX1_undo_1 6 rfl rfl)
theorem dX1_undo_32 : decode cX1_undo 32 = .ok (.aload_n 0, 1) := dk_42 (dk_at dksX1_undo_1 9 rfl rfl)
theorem dX1_undo_33 : decode cX1_undo 33 = .ok (.getfield 44, 3) := dk_180 0 44 (dk_at dksX1_undo_1 10 rfl rfl)
theorem dX1_undo_36 : decode cX1_undo 36 = .ok (.invokevirtual 65, 3) := dk_182 0 65 (dk_at dksX1_undo_1 13 rfl rfl)
theorem dX1_undo_39 : decode cX1_undo 39 = .ok (.ireturn, 1) := dk_172 (dk_at dksX1_undo_1 16 rfl rfl)
abbrev cX1_restore : ByteArray := prog_1_method_53_code
def yX1_restore : MethodName := ⟨RX1, "restore", "()I"⟩
def dkwX1_restore_1 : List UInt8 := [180, 0, 44, 182, 0, 110, 42, 180, 0, 37, 180, 0, 103, 182, 0, 107, 172]
abbrev dktX1_restore_1 : List UInt8 := dkwX1_restore_1 ++ []
def dkwX1_restore_0 : List UInt8 := [42, 180, 1, 105, 198, 0, 7, 4, 167, 0, 4, 3, 184, 1, 23, 42, 42, 180, 1, 105, 181, 0, 37, 42]
abbrev dktX1_restore_0 : List UInt8 := dkwX1_restore_0 ++ dktX1_restore_1
theorem dksX1_restore_0 : cX1_restore.data.toList.drop 0 = dktX1_restore_0 := by decide +kernel
theorem dksX1_restore_1 : cX1_restore.data.toList.drop 24 = dktX1_restore_1 := dk_seg dksX1_restore_0 24 rfl rfl
theorem dX1_restore_0 : decode cX1_restore 0 = .ok (.aload_n 0, 1) := dk_42 (dk_at dksX1_restore_0 0 rfl rfl)
theorem dX1_restore_1 : decode cX1_restore 1 = .ok (.getfield 361, 3) := dk_180 1 105 (dk_at dksX1_restore_0 1 rfl rfl)
theorem dX1_restore_4 : decode cX1_restore 4 = .ok (.ifnull 7, 3) := dk_198 0 7 (dk_at dksX1_restore_0 4 rfl rfl)
theorem dX1_restore_7 : decode cX1_restore 7 = .ok (.iconst 1, 1) := dk_4 (dk_at dksX1_restore_0 7 rfl rfl)
theorem dX1_restore_8 : decode cX1_restore 8 = .ok (.goto 4, 3) := dk_167 0 4 (dk_at dksX1_restore_0 8 rfl rfl)
theorem dX1_restore_11 : decode cX1_restore 11 = .ok (.iconst 0, 1) := dk_3 (dk_at dksX1_restore_0 11 rfl rfl)
theorem dX1_restore_12 : decode cX1_restore 12 = .ok (.invokestatic 279, 3) := dk_184 1 23 (dk_at dksX1_restore_0 12 rfl rfl)
theorem dX1_restore_15 : decode cX1_restore 15 = .ok (.aload_n 0, 1) := dk_42 (dk_at dksX1_restore_0 15 rfl rfl)
theorem dX1_restore_16 : decode cX1_restore 16 = .ok (.aload_n 0, 1) := dk_42 (dk_at dksX1_restore_0 16 rfl rfl)
theorem dX1_restore_17 : decode cX1_restore 17 = .ok (.getfield 361, 3) := dk_180 1 105 (dk_at dksX1_restore_0 17 rfl rfl)
theorem dX1_restore_20 : decode cX1_restore 20 = .ok (.putfield 37, 3) := dk_181 0 37 (dk_at dksX1_restore_0 20 rfl rfl)
theorem dX1_restore_23 : decode cX1_restore 23 = .ok (.aload_n 0, 1) := dk_42 (dk_at dksX1_restore_0 23 rfl rfl)
theorem dX1_restore_24 : decode cX1_restore 24 = .ok (.getfield 44, 3) := dk_180 0 44 (dk_at dksX1_restore_1 0 rfl rfl)
theorem dX1_restore_27 : decode cX1_restore 27 = .ok (.invokevirtual 110, 3) := dk_182 0 110 (dk_at dksX1_restore_1 3 rfl rfl)
theorem dX1_restore_30 : decode cX1_restore 30 = .ok (.aload_n 0, 1) := dk_42 (dk_at dksX1_restore_1 6 rfl rfl)
theorem dX1_restore_31 : decode cX1_restore 31 = .ok (.getfield 37, 3) := dk_180 0 37 (dk_at dksX1_restore_1 7 rfl rfl)
theorem dX1_restore_34 : decode cX1_restore 34 = .ok (.getfield 103, 3) := dk_180 0 103 (dk_at dksX1_restore_1 10 rfl rfl)
theorem dX1_restore_37 : decode cX1_restore 37 = .ok (.invokevirtual 107, 3) := dk_182 0 107 (dk_at dksX1_restore_1 13 rfl rfl)
theorem dX1_restore_40 : decode cX1_restore 40 = .ok (.ireturn, 1) := dk_172 (dk_at dksX1_restore_1 16 rfl rfl)
theorem q77 : (Jvm.Cond.initialized "FlockHuts") ∈ lw_all := lw_g (lw_at lw_m1 1 rfl) rfl
theorem q119 : (Jvm.Cond.instantiable "FlockHuts" (8 : Nat)) ∈ lw_all := lw_g (lw_at lw_m1 43 rfl) rfl
theorem q121 : (Jvm.Cond.instanceMethod ({ cls := "FlockHuts", name := "<init>", desc := "()V" } : Jvm.MethodName)) ∈ lw_all := lw_g (lw_at lw_m1 45 rfl) rfl
theorem q122 : (Jvm.Cond.code ({ cls := "FlockHuts", name := "<init>", desc := "()V" } : Jvm.MethodName) prog_1_method_8_code (1 : Nat) (Option.none : Option Jvm.ClassFile.FieldType)) ∈ lw_all := lw_g (lw_at lw_m1 46 rfl) rfl
theorem q123 : (Jvm.Cond.methodLink "FlockHuts" (31 : Nat) ({ cls := "java/lang/Object", name := "<init>", desc := "()V" } : Jvm.MethodName)) ∈ lw_all := lw_g (lw_at lw_m1 47 rfl) rfl
theorem q126 : (Jvm.Cond.classLink "FlockHuts" (34 : Nat) "FlockHuts$Field") ∈ lw_all := lw_g (lw_at lw_m1 50 rfl) rfl
theorem q128 : (Jvm.Cond.methodLinkNest "FlockHuts" (36 : Nat) ({ cls := "FlockHuts$Field", name := "<init>", desc := "()V" } : Jvm.MethodName) "FlockHuts") ∈ lw_tbl := lw_at lw_m1 52 rfl
theorem q163 : (Jvm.Cond.fieldLinkNest "FlockHuts" (103 : Nat) "FlockHuts$Field" "sheep" "Ljava/util/ArrayList;" "FlockHuts") ∈ lw_tbl := lw_at lw_m1 87 rfl
theorem q166 : (Jvm.Cond.fieldLinkNest "FlockHuts" (168 : Nat) "FlockHuts$Field" "huts" "Ljava/util/ArrayList;" "FlockHuts") ∈ lw_tbl := lw_at lw_m1 90 rfl
theorem q168 : (Jvm.Cond.fieldLinkNest "FlockHuts" (156 : Nat) "FlockHuts$Field" "dogs" "[I" "FlockHuts") ∈ lw_tbl := lw_at lw_m1 92 rfl
theorem q170 : (Jvm.Cond.fieldLinkNest "FlockHuts" (309 : Nat) "FlockHuts$Field" "rounds" "I" "FlockHuts") ∈ lw_tbl := lw_at lw_m1 94 rfl
theorem q172 : (Jvm.Cond.fieldLinkNest "FlockHuts" (312 : Nat) "FlockHuts$Field" "anew" "I" "FlockHuts") ∈ lw_tbl := lw_at lw_m1 96 rfl
theorem q174 : (Jvm.Cond.fieldLinkNest "FlockHuts" (315 : Nat) "FlockHuts$Field" "fetched" "I" "FlockHuts") ∈ lw_tbl := lw_at lw_m1 98 rfl
theorem q176 : (Jvm.Cond.fieldLinkNest "FlockHuts" (318 : Nat) "FlockHuts$Field" "changed" "I" "FlockHuts") ∈ lw_tbl := lw_at lw_m1 100 rfl
theorem q193 : (Jvm.Cond.classLink "FlockHuts" (41 : Nat) "java/util/ArrayDeque") ∈ lw_all := lw_g (lw_at lw_m1 117 rfl) rfl
theorem q195 : (Jvm.Cond.methodLink "FlockHuts" (43 : Nat) ({ cls := "java/util/ArrayDeque", name := "<init>", desc := "()V" } : Jvm.MethodName)) ∈ lw_all := lw_g (lw_at lw_m1 119 rfl) rfl
theorem q211 : (Jvm.Cond.classLink "FlockHuts" (48 : Nat) "java/lang/StringBuilder") ∈ lw_all := lw_g (lw_at lw_m1 135 rfl) rfl
theorem q213 : (Jvm.Cond.methodLink "FlockHuts" (50 : Nat) ({ cls := "java/lang/StringBuilder", name := "<init>", desc := "()V" } : Jvm.MethodName)) ∈ lw_all := lw_g (lw_at lw_m1 137 rfl) rfl
theorem q243 : (Jvm.Cond.stringRef "FlockHuts" (55 : Nat) "") ∈ lw_tbl := lw_at lw_m1 167 rfl
theorem q244 : (Jvm.Cond.fieldLink "FlockHuts" (37 : Nat) "FlockHuts" "field" "LFlockHuts$Field;") ∈ lw_all := lw_g (lw_at lw_m1 168 rfl) rfl
theorem q245 : (Jvm.Cond.fieldLink "FlockHuts" (44 : Nat) "FlockHuts" "undoSteps" "Ljava/util/ArrayDeque;") ∈ lw_all := lw_g (lw_at lw_m1 169 rfl) rfl
theorem q246 : (Jvm.Cond.fieldLink "FlockHuts" (361 : Nat) "FlockHuts" "saved" "LFlockHuts$Field;") ∈ lw_all := lw_g (lw_at lw_m1 170 rfl) rfl
theorem q247 : (Jvm.Cond.fieldLink "FlockHuts" (51 : Nat) "FlockHuts" "input" "Ljava/lang/StringBuilder;") ∈ lw_all := lw_g (lw_at lw_m1 171 rfl) rfl
theorem q248 : (Jvm.Cond.fieldLink "FlockHuts" (57 : Nat) "FlockHuts" "line" "Ljava/lang/String;") ∈ lw_all := lw_g (lw_at lw_m1 172 rfl) rfl
theorem q249 : (Jvm.Cond.fieldLink "FlockHuts" (347 : Nat) "FlockHuts" "lastError" "LFlockHuts$SyntaxException;") ∈ lw_all := lw_g (lw_at lw_m1 173 rfl) rfl
theorem q250 : (Jvm.Cond.fieldLink "FlockHuts" (61 : Nat) "FlockHuts" "lastItem" "I") ∈ lw_all := lw_g (lw_at lw_m1 174 rfl) rfl
theorem q251 : (Jvm.Cond.fieldLink "FlockHuts" (92 : Nat) "FlockHuts" "lastRefusal" "LFlockHuts$Refused;") ∈ lw_all := lw_g (lw_at lw_m1 175 rfl) rfl
theorem q252 : (Jvm.Cond.lays "FlockHuts" "FlockHuts" "field" "LFlockHuts$Field;") ∈ lw_all := lw_g (lw_at lw_m1 176 rfl) rfl
theorem q253 : (Jvm.Cond.soleField "FlockHuts" "field") ∈ lw_all := lw_g (lw_at lw_m1 177 rfl) rfl
theorem q254 : (Jvm.Cond.laysFinal "FlockHuts" "FlockHuts" "undoSteps" "Ljava/util/ArrayDeque;") ∈ lw_all := lw_g (lw_at lw_m1 178 rfl) rfl
theorem q255 : (Jvm.Cond.soleField "FlockHuts" "undoSteps") ∈ lw_all := lw_g (lw_at lw_m1 179 rfl) rfl
theorem q256 : (Jvm.Cond.lays "FlockHuts" "FlockHuts" "saved" "LFlockHuts$Field;") ∈ lw_all := lw_g (lw_at lw_m1 180 rfl) rfl
theorem q257 : (Jvm.Cond.soleField "FlockHuts" "saved") ∈ lw_all := lw_g (lw_at lw_m1 181 rfl) rfl
theorem q258 : (Jvm.Cond.lays "FlockHuts" "FlockHuts" "input" "Ljava/lang/StringBuilder;") ∈ lw_all := lw_g (lw_at lw_m1 182 rfl) rfl
theorem q259 : (Jvm.Cond.soleField "FlockHuts" "input") ∈ lw_all := lw_g (lw_at lw_m1 183 rfl) rfl
theorem q260 : (Jvm.Cond.lays "FlockHuts" "FlockHuts" "line" "Ljava/lang/String;") ∈ lw_all := lw_g (lw_at lw_m1 184 rfl) rfl
theorem q261 : (Jvm.Cond.soleField "FlockHuts" "line") ∈ lw_all := lw_g (lw_at lw_m1 185 rfl) rfl
theorem q262 : (Jvm.Cond.lays "FlockHuts" "FlockHuts" "lastError" "LFlockHuts$SyntaxException;") ∈ lw_all := lw_g (lw_at lw_m1 186 rfl) rfl
theorem q263 : (Jvm.Cond.soleField "FlockHuts" "lastError") ∈ lw_all := lw_g (lw_at lw_m1 187 rfl) rfl
theorem q264 : (Jvm.Cond.lays "FlockHuts" "FlockHuts" "lastItem" "I") ∈ lw_all := lw_g (lw_at lw_m1 188 rfl) rfl
theorem q265 : (Jvm.Cond.soleField "FlockHuts" "lastItem") ∈ lw_all := lw_g (lw_at lw_m1 189 rfl) rfl
theorem q266 : (Jvm.Cond.lays "FlockHuts" "FlockHuts" "lastRefusal" "LFlockHuts$Refused;") ∈ lw_all := lw_g (lw_at lw_m1 190 rfl) rfl
theorem q267 : (Jvm.Cond.soleField "FlockHuts" "lastRefusal") ∈ lw_all := lw_g (lw_at lw_m1 191 rfl) rfl
theorem q268 : (Jvm.Cond.superclass "FlockHuts" "java/lang/Object") ∈ lw_all := lw_g (lw_at lw_m1 192 rfl) rfl
theorem q270 : (Jvm.Cond.instanceMethod ({ cls := "FlockHuts", name := "clear", desc := "()I" } : Jvm.MethodName)) ∈ lw_all := lw_g (lw_at lw_m1 194 rfl) rfl
theorem q271 : (Jvm.Cond.selects "FlockHuts" ({ cls := "FlockHuts", name := "clear", desc := "()I" } : Jvm.MethodName) ({ cls := "FlockHuts", name := "clear", desc := "()I" } : Jvm.MethodName)) ∈ lw_all := lw_g (lw_at lw_m1 195 rfl) rfl
theorem q272 : (Jvm.Cond.code ({ cls := "FlockHuts", name := "clear", desc := "()I" } : Jvm.MethodName) prog_1_method_11_code (2 : Nat) (Option.some Jvm.ClassFile.FieldType.int)) ∈ lw_all := lw_g (lw_at lw_m1 196 rfl) rfl
theorem q273 : (Jvm.Cond.methodLink "FlockHuts" (107 : Nat) ({ cls := "java/util/ArrayList", name := "size", desc := "()I" } : Jvm.MethodName)) ∈ lw_all := lw_g (lw_at lw_m1 197 rfl) rfl
theorem q277 : (Jvm.Cond.methodLink "FlockHuts" (110 : Nat) ({ cls := "java/util/ArrayDeque", name := "clear", desc := "()V" } : Jvm.MethodName)) ∈ lw_all := lw_g (lw_at lw_m1 201 rfl) rfl
theorem q285 : (Jvm.Cond.instanceMethod ({ cls := "FlockHuts", name := "isStill", desc := "()Z" } : Jvm.MethodName)) ∈ lw_all := lw_g (lw_at lw_m1 209 rfl) rfl
theorem q286 : (Jvm.Cond.selects "FlockHuts" ({ cls := "FlockHuts", name := "isStill", desc := "()Z" } : Jvm.MethodName) ({ cls := "FlockHuts", name := "isStill", desc := "()Z" } : Jvm.MethodName)) ∈ lw_all := lw_g (lw_at lw_m1 210 rfl) rfl
theorem q287 : (Jvm.Cond.code ({ cls := "FlockHuts", name := "isStill", desc := "()Z" } : Jvm.MethodName) prog_1_method_23_code (1 : Nat) (Option.some Jvm.ClassFile.FieldType.boolean)) ∈ lw_all := lw_g (lw_at lw_m1 211 rfl) rfl
theorem q288 : (Jvm.Cond.methodLink "FlockHuts" (205 : Nat) ({ cls := "FlockHuts$Field", name := "isStill", desc := "()Z" } : Jvm.MethodName)) ∈ lw_all := lw_g (lw_at lw_m1 212 rfl) rfl
theorem q353 : (Jvm.Cond.static ({ cls := "FlockHuts", name := "checkElement", desc := "(Z)V" } : Jvm.MethodName)) ∈ lw_all := lw_g (lw_at lw_m2 37 rfl) rfl
theorem q354 : (Jvm.Cond.code ({ cls := "FlockHuts", name := "checkElement", desc := "(Z)V" } : Jvm.MethodName) prog_1_method_5_code (1 : Nat) (Option.none : Option Jvm.ClassFile.FieldType)) ∈ lw_all := lw_g (lw_at lw_m2 38 rfl) rfl
theorem q355 : (Jvm.Cond.classLink "FlockHuts" (13 : Nat) "java/util/NoSuchElementException") ∈ lw_all := lw_g (lw_at lw_m2 39 rfl) rfl
theorem q402 : (Jvm.Cond.methodLink "FlockHuts" (15 : Nat) ({ cls := "java/util/NoSuchElementException", name := "<init>", desc := "()V" } : Jvm.MethodName)) ∈ lw_all := lw_g (lw_at lw_m2 86 rfl) rfl
theorem q469 : (Jvm.Cond.fieldLinkNest "FlockHuts" (131 : Nat) "FlockHuts$Sheep" "x" "I" "FlockHuts") ∈ lw_tbl := lw_at lw_m2 153 rfl
theorem q473 : (Jvm.Cond.fieldLinkNest "FlockHuts" (136 : Nat) "FlockHuts$Sheep" "y" "I" "FlockHuts") ∈ lw_tbl := lw_at lw_m2 157 rfl
theorem q477 : (Jvm.Cond.fieldLinkNest "FlockHuts" (139 : Nat) "FlockHuts$Sheep" "weight" "I" "FlockHuts") ∈ lw_tbl := lw_at lw_m2 161 rfl
theorem q482 : (Jvm.Cond.fieldLinkNest "FlockHuts" (142 : Nat) "FlockHuts$Sheep" "hut" "I" "FlockHuts") ∈ lw_tbl := lw_at lw_m2 166 rfl
theorem q524 : (Jvm.Cond.selects "FlockHuts" ({ cls := "java/lang/Object", name := "getClass", desc := "()Ljava/lang/Class;" } : Jvm.MethodName) ({ cls := "java/lang/Object", name := "getClass", desc := "()Ljava/lang/Class;" } : Jvm.MethodName)) ∈ lw_all := lw_g (lw_at lw_m2 208 rfl) rfl
theorem q615 : (Jvm.Cond.fieldLinkNest "FlockHuts" (177 : Nat) "FlockHuts$Hut" "x" "I" "FlockHuts") ∈ lw_tbl := lw_at lw_m3 59 rfl
theorem q618 : (Jvm.Cond.fieldLinkNest "FlockHuts" (178 : Nat) "FlockHuts$Hut" "y" "I" "FlockHuts") ∈ lw_tbl := lw_at lw_m3 62 rfl
theorem q744 : (Jvm.Cond.instanceMethod ({ cls := "FlockHuts", name := "roundsToStill", desc := "()I" } : Jvm.MethodName)) ∈ lw_all := lw_g (lw_at lw_m3 188 rfl) rfl
theorem q745 : (Jvm.Cond.selects "FlockHuts" ({ cls := "FlockHuts", name := "roundsToStill", desc := "()I" } : Jvm.MethodName) ({ cls := "FlockHuts", name := "roundsToStill", desc := "()I" } : Jvm.MethodName)) ∈ lw_all := lw_g (lw_at lw_m3 189 rfl) rfl
theorem q746 : (Jvm.Cond.code ({ cls := "FlockHuts", name := "roundsToStill", desc := "()I" } : Jvm.MethodName) prog_1_method_24_code (1 : Nat) (Option.some Jvm.ClassFile.FieldType.int)) ∈ lw_all := lw_g (lw_at lw_m3 190 rfl) rfl
theorem q747 : (Jvm.Cond.methodLink "FlockHuts" (209 : Nat) ({ cls := "FlockHuts$Field", name := "roundsToStill", desc := "()I" } : Jvm.MethodName)) ∈ lw_all := lw_g (lw_at lw_m3 191 rfl) rfl
theorem q753 : (Jvm.Cond.instanceMethod ({ cls := "FlockHuts", name := "spread", desc := "(Z)I" } : Jvm.MethodName)) ∈ lw_all := lw_g (lw_at lw_m3 197 rfl) rfl
theorem q754 : (Jvm.Cond.selects "FlockHuts" ({ cls := "FlockHuts", name := "spread", desc := "(Z)I" } : Jvm.MethodName) ({ cls := "FlockHuts", name := "spread", desc := "(Z)I" } : Jvm.MethodName)) ∈ lw_all := lw_g (lw_at lw_m3 198 rfl) rfl
theorem q755 : (Jvm.Cond.code ({ cls := "FlockHuts", name := "spread", desc := "(Z)I" } : Jvm.MethodName) prog_1_method_25_code (2 : Nat) (Option.some Jvm.ClassFile.FieldType.int)) ∈ lw_all := lw_g (lw_at lw_m3 199 rfl) rfl
theorem q756 : (Jvm.Cond.methodLink "FlockHuts" (212 : Nat) ({ cls := "FlockHuts$Field", name := "spreadAgain", desc := "()I" } : Jvm.MethodName)) ∈ lw_all := lw_g (lw_at lw_m3 200 rfl) rfl
theorem q760 : (Jvm.Cond.methodLink "FlockHuts" (215 : Nat) ({ cls := "FlockHuts$Field", name := "spread", desc := "()I" } : Jvm.MethodName)) ∈ lw_all := lw_g (lw_at lw_m3 204 rfl) rfl
theorem q771 : (Jvm.Cond.instanceMethod ({ cls := "FlockHuts", name := "strays", desc := "()I" } : Jvm.MethodName)) ∈ lw_all := lw_g (lw_at lw_m3 215 rfl) rfl
theorem q772 : (Jvm.Cond.selects "FlockHuts" ({ cls := "FlockHuts", name := "strays", desc := "()I" } : Jvm.MethodName) ({ cls := "FlockHuts", name := "strays", desc := "()I" } : Jvm.MethodName)) ∈ lw_all := lw_g (lw_at lw_m3 216 rfl) rfl
theorem q773 : (Jvm.Cond.code ({ cls := "FlockHuts", name := "strays", desc := "()I" } : Jvm.MethodName) prog_1_method_29_code (1 : Nat) (Option.some Jvm.ClassFile.FieldType.int)) ∈ lw_all := lw_g (lw_at lw_m3 217 rfl) rfl
theorem q774 : (Jvm.Cond.methodLink "FlockHuts" (237 : Nat) ({ cls := "FlockHuts$Field", name := "strays", desc := "()Ljava/util/ArrayList;" } : Jvm.MethodName)) ∈ lw_all := lw_g (lw_at lw_m3 218 rfl) rfl
theorem q783 : (Jvm.Cond.instanceMethod ({ cls := "FlockHuts", name := "isRight", desc := "()Z" } : Jvm.MethodName)) ∈ lw_all := lw_g (lw_at lw_m3 227 rfl) rfl
theorem q784 : (Jvm.Cond.selects "FlockHuts" ({ cls := "FlockHuts", name := "isRight", desc := "()Z" } : Jvm.MethodName) ({ cls := "FlockHuts", name := "isRight", desc := "()Z" } : Jvm.MethodName)) ∈ lw_all := lw_g (lw_at lw_m3 228 rfl) rfl
theorem q785 : (Jvm.Cond.code ({ cls := "FlockHuts", name := "isRight", desc := "()Z" } : Jvm.MethodName) prog_1_method_36_code (1 : Nat) (Option.some Jvm.ClassFile.FieldType.boolean)) ∈ lw_all := lw_g (lw_at lw_m3 229 rfl) rfl
theorem q786 : (Jvm.Cond.methodLink "FlockHuts" (257 : Nat) ({ cls := "FlockHuts$Field", name := "isRight", desc := "()Z" } : Jvm.MethodName)) ∈ lw_all := lw_g (lw_at lw_m3 230 rfl) rfl
theorem q794 : (Jvm.Cond.static ({ cls := "FlockHuts", name := "inRange", desc := "(JJJ)Z" } : Jvm.MethodName)) ∈ lw_all := lw_g (lw_at lw_m3 238 rfl) rfl
theorem q795 : (Jvm.Cond.code ({ cls := "FlockHuts", name := "inRange", desc := "(JJJ)Z" } : Jvm.MethodName) prog_1_method_1_code (6 : Nat) (Option.some Jvm.ClassFile.FieldType.boolean)) ∈ lw_all := lw_g (lw_at lw_m3 239 rfl) rfl
theorem q802 : (Jvm.Cond.instanceMethod ({ cls := "FlockHuts", name := "line", desc := "()I" } : Jvm.MethodName)) ∈ lw_all := lw_g (lw_at lw_m4 6 rfl) rfl
theorem q803 : (Jvm.Cond.selects "FlockHuts" ({ cls := "FlockHuts", name := "line", desc := "()I" } : Jvm.MethodName) ({ cls := "FlockHuts", name := "line", desc := "()I" } : Jvm.MethodName)) ∈ lw_all := lw_g (lw_at lw_m4 7 rfl) rfl
theorem q804 : (Jvm.Cond.code ({ cls := "FlockHuts", name := "line", desc := "()I" } : Jvm.MethodName) prog_1_method_38_code (1 : Nat) (Option.some Jvm.ClassFile.FieldType.int)) ∈ lw_all := lw_g (lw_at lw_m4 8 rfl) rfl
theorem q805 : (Jvm.Cond.methodLink "FlockHuts" (269 : Nat) ({ cls := "FlockHuts$Field", name := "told", desc := "()Ljava/lang/String;" } : Jvm.MethodName)) ∈ lw_all := lw_g (lw_at lw_m4 9 rfl) rfl
theorem q1034 : (Jvm.Cond.methodLink "FlockHuts" (264 : Nat) ({ cls := "java/lang/String", name := "length", desc := "()I" } : Jvm.MethodName)) ∈ lw_all := lw_g (lw_at lw_m4 238 rfl) rfl
theorem q1036 : (Jvm.Cond.instanceMethod ({ cls := "FlockHuts", name := "snapshot", desc := "()I" } : Jvm.MethodName)) ∈ lw_all := lw_g (lw_at lw_m5 0 rfl) rfl
theorem q1037 : (Jvm.Cond.selects "FlockHuts" ({ cls := "FlockHuts", name := "snapshot", desc := "()I" } : Jvm.MethodName) ({ cls := "FlockHuts", name := "snapshot", desc := "()I" } : Jvm.MethodName)) ∈ lw_all := lw_g (lw_at lw_m5 1 rfl) rfl
theorem q1038 : (Jvm.Cond.code ({ cls := "FlockHuts", name := "snapshot", desc := "()I" } : Jvm.MethodName) prog_1_method_52_code (1 : Nat) (Option.some Jvm.ClassFile.FieldType.int)) ∈ lw_all := lw_g (lw_at lw_m5 2 rfl) rfl
theorem q1045 : (Jvm.Cond.instanceMethod ({ cls := "FlockHuts", name := "sheep", desc := "(III)I" } : Jvm.MethodName)) ∈ lw_all := lw_g (lw_at lw_m5 9 rfl) rfl
theorem q1046 : (Jvm.Cond.selects "FlockHuts" ({ cls := "FlockHuts", name := "sheep", desc := "(III)I" } : Jvm.MethodName) ({ cls := "FlockHuts", name := "sheep", desc := "(III)I" } : Jvm.MethodName)) ∈ lw_all := lw_g (lw_at lw_m5 10 rfl) rfl
theorem q1047 : (Jvm.Cond.code ({ cls := "FlockHuts", name := "sheep", desc := "(III)I" } : Jvm.MethodName) prog_1_method_12_code (4 : Nat) (Option.some Jvm.ClassFile.FieldType.int)) ∈ lw_all := lw_g (lw_at lw_m5 11 rfl) rfl
theorem q1048 : (Jvm.Cond.stringRef "FlockHuts" (113 : Nat) "sheep") ∈ lw_tbl := lw_at lw_m5 12 rfl
theorem q1049 : (Jvm.Cond.methodLink "FlockHuts" (114 : Nat) ({ cls := "FlockHuts", name := "change", desc := "(Ljava/lang/String;[I)I" } : Jvm.MethodName)) ∈ lw_all := lw_g (lw_at lw_m5 13 rfl) rfl
theorem q1050 : (Jvm.Cond.privateMethod ({ cls := "FlockHuts", name := "change", desc := "(Ljava/lang/String;[I)I" } : Jvm.MethodName)) ∈ lw_tbl := lw_at lw_m5 14 rfl
theorem q1051 : (Jvm.Cond.instanceMethod ({ cls := "FlockHuts", name := "change", desc := "(Ljava/lang/String;[I)I" } : Jvm.MethodName)) ∈ lw_all := lw_g (lw_at lw_m5 15 rfl) rfl
theorem q1052 : (Jvm.Cond.codeWith ({ cls := "FlockHuts", name := "change", desc := "(Ljava/lang/String;[I)I" } : Jvm.MethodName) prog_1_method_10_code (6 : Nat) (Option.some Jvm.ClassFile.FieldType.int) [((8 : Nat), (23 : Nat), (26 : Nat), (90 : Nat))]) ∈ lw_all := lw_g (lw_at lw_m5 16 rfl) rfl
theorem q1053 : (Jvm.Cond.classLink "FlockHuts" (90 : Nat) "FlockHuts$Refused") ∈ lw_all := lw_g (lw_at lw_m5 17 rfl) rfl
theorem q1054 : (Jvm.Cond.methodLink "FlockHuts" (77 : Nat) ({ cls := "FlockHuts$Field", name := "copy", desc := "()LFlockHuts$Field;" } : Jvm.MethodName)) ∈ lw_all := lw_g (lw_at lw_m5 18 rfl) rfl
theorem q1055 : (Jvm.Cond.classLink "FlockHuts" (81 : Nat) "FlockHuts$Order") ∈ lw_all := lw_g (lw_at lw_m5 19 rfl) rfl
theorem q1057 : (Jvm.Cond.methodLink "FlockHuts" (83 : Nat) ({ cls := "FlockHuts$Order", name := "<init>", desc := "(Ljava/lang/String;[I)V" } : Jvm.MethodName)) ∈ lw_all := lw_g (lw_at lw_m5 21 rfl) rfl
theorem q1068 : (Jvm.Cond.methodLink "FlockHuts" (86 : Nat) ({ cls := "FlockHuts$Order", name := "make", desc := "(LFlockHuts$Field;)I" } : Jvm.MethodName)) ∈ lw_all := lw_g (lw_at lw_m5 32 rfl) rfl
theorem q1155 : (Jvm.Cond.static ({ cls := "FlockHuts", name := "checkPlaces", desc := "([I)V" } : Jvm.MethodName)) ∈ lw_all := lw_g (lw_at lw_m5 119 rfl) rfl
theorem q1156 : (Jvm.Cond.code ({ cls := "FlockHuts", name := "checkPlaces", desc := "([I)V" } : Jvm.MethodName) prog_1_method_7_code (5 : Nat) (Option.none : Option Jvm.ClassFile.FieldType)) ∈ lw_all := lw_g (lw_at lw_m5 120 rfl) rfl
theorem q1157 : (Jvm.Cond.constantLong "FlockHuts" (21 : Nat) (99 : Int64)) ∈ lw_all := lw_g (lw_at lw_m5 121 rfl) rfl
theorem q1158 : (Jvm.Cond.methodLink "FlockHuts" (23 : Nat) ({ cls := "FlockHuts", name := "inRange", desc := "(JJJ)Z" } : Jvm.MethodName)) ∈ lw_all := lw_g (lw_at lw_m5 122 rfl) rfl
theorem q1159 : (Jvm.Cond.methodLink "FlockHuts" (27 : Nat) ({ cls := "FlockHuts", name := "checkArgument", desc := "(Z)V" } : Jvm.MethodName)) ∈ lw_all := lw_g (lw_at lw_m5 123 rfl) rfl
theorem q1160 : (Jvm.Cond.static ({ cls := "FlockHuts", name := "checkArgument", desc := "(Z)V" } : Jvm.MethodName)) ∈ lw_all := lw_g (lw_at lw_m5 124 rfl) rfl
theorem q1161 : (Jvm.Cond.code ({ cls := "FlockHuts", name := "checkArgument", desc := "(Z)V" } : Jvm.MethodName) prog_1_method_2_code (1 : Nat) (Option.none : Option Jvm.ClassFile.FieldType)) ∈ lw_all := lw_g (lw_at lw_m5 125 rfl) rfl
theorem q1162 : (Jvm.Cond.classLink "FlockHuts" (1 : Nat) "java/lang/IllegalArgumentException") ∈ lw_all := lw_g (lw_at lw_m5 126 rfl) rfl
theorem q1163 : (Jvm.Cond.methodLink "FlockHuts" (3 : Nat) ({ cls := "java/lang/IllegalArgumentException", name := "<init>", desc := "()V" } : Jvm.MethodName)) ∈ lw_all := lw_g (lw_at lw_m5 127 rfl) rfl
theorem q1191 : (Jvm.Cond.fieldLinkNest "FlockHuts" (285 : Nat) "FlockHuts$Refused" "reason" "I" "FlockHuts") ∈ lw_tbl := lw_at lw_m5 155 rfl
theorem q1193 : (Jvm.Cond.fieldLinkNest "FlockHuts" (282 : Nat) "FlockHuts$Refused" "detail" "I" "FlockHuts") ∈ lw_tbl := lw_at lw_m5 157 rfl
theorem q1223 : (Jvm.Cond.static ({ cls := "FlockHuts", name := "checkIndex", desc := "(Z)V" } : Jvm.MethodName)) ∈ lw_all := lw_g (lw_at lw_m5 187 rfl) rfl
theorem q1224 : (Jvm.Cond.code ({ cls := "FlockHuts", name := "checkIndex", desc := "(Z)V" } : Jvm.MethodName) prog_1_method_3_code (1 : Nat) (Option.none : Option Jvm.ClassFile.FieldType)) ∈ lw_all := lw_g (lw_at lw_m5 188 rfl) rfl
theorem q1225 : (Jvm.Cond.classLink "FlockHuts" (7 : Nat) "java/lang/IndexOutOfBoundsException") ∈ lw_all := lw_g (lw_at lw_m5 189 rfl) rfl
theorem q1234 : (Jvm.Cond.methodLink "FlockHuts" (9 : Nat) ({ cls := "java/lang/IndexOutOfBoundsException", name := "<init>", desc := "()V" } : Jvm.MethodName)) ∈ lw_all := lw_g (lw_at lw_m5 198 rfl) rfl
theorem q1248 : (Jvm.Cond.selects "FlockHuts" ({ cls := "java/lang/Object", name := "equals", desc := "(Ljava/lang/Object;)Z" } : Jvm.MethodName) ({ cls := "java/lang/Object", name := "equals", desc := "(Ljava/lang/Object;)Z" } : Jvm.MethodName)) ∈ lw_all := lw_g (lw_at lw_m5 212 rfl) rfl
theorem q1332 : (Jvm.Cond.classLink "FlockHuts" (96 : Nat) "java/lang/UnsupportedOperationException") ∈ lw_all := lw_g (lw_at lw_m6 56 rfl) rfl
theorem q1341 : (Jvm.Cond.methodLink "FlockHuts" (98 : Nat) ({ cls := "java/lang/UnsupportedOperationException", name := "<init>", desc := "()V" } : Jvm.MethodName)) ∈ lw_all := lw_g (lw_at lw_m6 65 rfl) rfl
theorem q1347 : (Jvm.Cond.methodLink "FlockHuts" (99 : Nat) ({ cls := "FlockHuts", name := "become", desc := "(LFlockHuts$Field;)V" } : Jvm.MethodName)) ∈ lw_all := lw_g (lw_at lw_m6 71 rfl) rfl
theorem q1348 : (Jvm.Cond.privateMethod ({ cls := "FlockHuts", name := "become", desc := "(LFlockHuts$Field;)V" } : Jvm.MethodName)) ∈ lw_tbl := lw_at lw_m6 72 rfl
theorem q1349 : (Jvm.Cond.instanceMethod ({ cls := "FlockHuts", name := "become", desc := "(LFlockHuts$Field;)V" } : Jvm.MethodName)) ∈ lw_all := lw_g (lw_at lw_m6 73 rfl) rfl
theorem q1350 : (Jvm.Cond.code ({ cls := "FlockHuts", name := "become", desc := "(LFlockHuts$Field;)V" } : Jvm.MethodName) prog_1_method_9_code (3 : Nat) (Option.none : Option Jvm.ClassFile.FieldType)) ∈ lw_all := lw_g (lw_at lw_m6 74 rfl) rfl
theorem q1351 : (Jvm.Cond.methodLink "FlockHuts" (65 : Nat) ({ cls := "java/util/ArrayDeque", name := "size", desc := "()I" } : Jvm.MethodName)) ∈ lw_all := lw_g (lw_at lw_m6 75 rfl) rfl
theorem q1358 : (Jvm.Cond.methodLink "FlockHuts" (69 : Nat) ({ cls := "java/util/ArrayDeque", name := "removeFirst", desc := "()Ljava/lang/Object;" } : Jvm.MethodName)) ∈ lw_all := lw_g (lw_at lw_m6 82 rfl) rfl
theorem q1374 : (Jvm.Cond.methodLink "FlockHuts" (73 : Nat) ({ cls := "java/util/ArrayDeque", name := "addLast", desc := "(Ljava/lang/Object;)V" } : Jvm.MethodName)) ∈ lw_all := lw_g (lw_at lw_m6 98 rfl) rfl
theorem q1410 : (Jvm.Cond.instanceMethod ({ cls := "FlockHuts", name := "hut", desc := "(II)I" } : Jvm.MethodName)) ∈ lw_all := lw_g (lw_at lw_m6 134 rfl) rfl
theorem q1411 : (Jvm.Cond.selects "FlockHuts" ({ cls := "FlockHuts", name := "hut", desc := "(II)I" } : Jvm.MethodName) ({ cls := "FlockHuts", name := "hut", desc := "(II)I" } : Jvm.MethodName)) ∈ lw_all := lw_g (lw_at lw_m6 135 rfl) rfl
theorem q1412 : (Jvm.Cond.code ({ cls := "FlockHuts", name := "hut", desc := "(II)I" } : Jvm.MethodName) prog_1_method_13_code (3 : Nat) (Option.some Jvm.ClassFile.FieldType.int)) ∈ lw_all := lw_g (lw_at lw_m6 136 rfl) rfl
theorem q1413 : (Jvm.Cond.stringRef "FlockHuts" (118 : Nat) "hut") ∈ lw_tbl := lw_at lw_m6 137 rfl
theorem q1437 : (Jvm.Cond.instanceMethod ({ cls := "FlockHuts", name := "leave", desc := "(I)I" } : Jvm.MethodName)) ∈ lw_all := lw_g (lw_at lw_m6 161 rfl) rfl
theorem q1438 : (Jvm.Cond.selects "FlockHuts" ({ cls := "FlockHuts", name := "leave", desc := "(I)I" } : Jvm.MethodName) ({ cls := "FlockHuts", name := "leave", desc := "(I)I" } : Jvm.MethodName)) ∈ lw_all := lw_g (lw_at lw_m6 162 rfl) rfl
theorem q1439 : (Jvm.Cond.code ({ cls := "FlockHuts", name := "leave", desc := "(I)I" } : Jvm.MethodName) prog_1_method_14_code (2 : Nat) (Option.some Jvm.ClassFile.FieldType.int)) ∈ lw_all := lw_g (lw_at lw_m6 163 rfl) rfl
theorem q1440 : (Jvm.Cond.stringRef "FlockHuts" (120 : Nat) "leave") ∈ lw_tbl := lw_at lw_m6 164 rfl
theorem q1445 : (Jvm.Cond.instanceMethod ({ cls := "FlockHuts", name := "strike", desc := "(I)I" } : Jvm.MethodName)) ∈ lw_all := lw_g (lw_at lw_m6 169 rfl) rfl
theorem q1446 : (Jvm.Cond.selects "FlockHuts" ({ cls := "FlockHuts", name := "strike", desc := "(I)I" } : Jvm.MethodName) ({ cls := "FlockHuts", name := "strike", desc := "(I)I" } : Jvm.MethodName)) ∈ lw_all := lw_g (lw_at lw_m6 170 rfl) rfl
theorem q1447 : (Jvm.Cond.code ({ cls := "FlockHuts", name := "strike", desc := "(I)I" } : Jvm.MethodName) prog_1_method_15_code (2 : Nat) (Option.some Jvm.ClassFile.FieldType.int)) ∈ lw_all := lw_g (lw_at lw_m6 171 rfl) rfl
theorem q1448 : (Jvm.Cond.stringRef "FlockHuts" (122 : Nat) "strike") ∈ lw_tbl := lw_at lw_m6 172 rfl
theorem q1453 : (Jvm.Cond.instanceMethod ({ cls := "FlockHuts", name := "move", desc := "(III)I" } : Jvm.MethodName)) ∈ lw_all := lw_g (lw_at lw_m6 177 rfl) rfl
theorem q1454 : (Jvm.Cond.selects "FlockHuts" ({ cls := "FlockHuts", name := "move", desc := "(III)I" } : Jvm.MethodName) ({ cls := "FlockHuts", name := "move", desc := "(III)I" } : Jvm.MethodName)) ∈ lw_all := lw_g (lw_at lw_m6 178 rfl) rfl
theorem q1455 : (Jvm.Cond.code ({ cls := "FlockHuts", name := "move", desc := "(III)I" } : Jvm.MethodName) prog_1_method_16_code (4 : Nat) (Option.some Jvm.ClassFile.FieldType.int)) ∈ lw_all := lw_g (lw_at lw_m6 179 rfl) rfl
theorem q1456 : (Jvm.Cond.stringRef "FlockHuts" (124 : Nat) "move") ∈ lw_tbl := lw_at lw_m6 180 rfl
theorem q1461 : (Jvm.Cond.instanceMethod ({ cls := "FlockHuts", name := "weigh", desc := "(II)I" } : Jvm.MethodName)) ∈ lw_all := lw_g (lw_at lw_m6 185 rfl) rfl
theorem q1462 : (Jvm.Cond.selects "FlockHuts" ({ cls := "FlockHuts", name := "weigh", desc := "(II)I" } : Jvm.MethodName) ({ cls := "FlockHuts", name := "weigh", desc := "(II)I" } : Jvm.MethodName)) ∈ lw_all := lw_g (lw_at lw_m6 186 rfl) rfl
theorem q1463 : (Jvm.Cond.code ({ cls := "FlockHuts", name := "weigh", desc := "(II)I" } : Jvm.MethodName) prog_1_method_17_code (3 : Nat) (Option.some Jvm.ClassFile.FieldType.int)) ∈ lw_all := lw_g (lw_at lw_m6 187 rfl) rfl
theorem q1464 : (Jvm.Cond.stringRef "FlockHuts" (126 : Nat) "weigh") ∈ lw_tbl := lw_at lw_m6 188 rfl
theorem q1469 : (Jvm.Cond.instanceMethod ({ cls := "FlockHuts", name := "sheepOf", desc := "(II)I" } : Jvm.MethodName)) ∈ lw_all := lw_g (lw_at lw_m6 193 rfl) rfl
theorem q1470 : (Jvm.Cond.selects "FlockHuts" ({ cls := "FlockHuts", name := "sheepOf", desc := "(II)I" } : Jvm.MethodName) ({ cls := "FlockHuts", name := "sheepOf", desc := "(II)I" } : Jvm.MethodName)) ∈ lw_all := lw_g (lw_at lw_m6 194 rfl) rfl
theorem q1471 : (Jvm.Cond.code ({ cls := "FlockHuts", name := "sheepOf", desc := "(II)I" } : Jvm.MethodName) prog_1_method_18_code (4 : Nat) (Option.some Jvm.ClassFile.FieldType.int)) ∈ lw_all := lw_g (lw_at lw_m6 195 rfl) rfl
theorem q1472 : (Jvm.Cond.methodLink "FlockHuts" (128 : Nat) ({ cls := "FlockHuts$Field", name := "sheep", desc := "(I)LFlockHuts$Sheep;" } : Jvm.MethodName)) ∈ lw_all := lw_g (lw_at lw_m6 196 rfl) rfl
theorem q1473 : (Jvm.Cond.methodLink "FlockHuts" (144 : Nat) ({ cls := "FlockHuts$Field", name := "distance", desc := "(LFlockHuts$Sheep;)I" } : Jvm.MethodName)) ∈ lw_all := lw_g (lw_at lw_m6 197 rfl) rfl
theorem q1474 : (Jvm.Cond.methodLink "FlockHuts" (148 : Nat) ({ cls := "FlockHuts$Field", name := "nearest", desc := "(LFlockHuts$Placed;)I" } : Jvm.MethodName)) ∈ lw_all := lw_g (lw_at lw_m6 198 rfl) rfl
theorem q1475 : (Jvm.Cond.methodLink "FlockHuts" (152 : Nat) ({ cls := "FlockHuts$Field", name := "isStray", desc := "(LFlockHuts$Sheep;)Z" } : Jvm.MethodName)) ∈ lw_all := lw_g (lw_at lw_m6 199 rfl) rfl
theorem q1480 : (Jvm.Cond.instanceMethod ({ cls := "FlockHuts", name := "hutOf", desc := "(II)I" } : Jvm.MethodName)) ∈ lw_all := lw_g (lw_at lw_m6 204 rfl) rfl
theorem q1481 : (Jvm.Cond.selects "FlockHuts" ({ cls := "FlockHuts", name := "hutOf", desc := "(II)I" } : Jvm.MethodName) ({ cls := "FlockHuts", name := "hutOf", desc := "(II)I" } : Jvm.MethodName)) ∈ lw_all := lw_g (lw_at lw_m6 205 rfl) rfl
theorem q1482 : (Jvm.Cond.code ({ cls := "FlockHuts", name := "hutOf", desc := "(II)I" } : Jvm.MethodName) prog_1_method_20_code (4 : Nat) (Option.some Jvm.ClassFile.FieldType.int)) ∈ lw_all := lw_g (lw_at lw_m6 206 rfl) rfl
theorem q1483 : (Jvm.Cond.methodLink "FlockHuts" (160 : Nat) ({ cls := "FlockHuts$Field", name := "checkHut", desc := "(I)V" } : Jvm.MethodName)) ∈ lw_all := lw_g (lw_at lw_m6 207 rfl) rfl
theorem q1484 : (Jvm.Cond.methodLink "FlockHuts" (164 : Nat) ({ cls := "FlockHuts$Field", name := "flock", desc := "(I)LFlockHuts$Field$Flock;" } : Jvm.MethodName)) ∈ lw_all := lw_g (lw_at lw_m6 208 rfl) rfl
theorem q1485 : (Jvm.Cond.methodLink "FlockHuts" (171 : Nat) ({ cls := "java/util/ArrayList", name := "get", desc := "(I)Ljava/lang/Object;" } : Jvm.MethodName)) ∈ lw_all := lw_g (lw_at lw_m6 209 rfl) rfl
theorem q1486 : (Jvm.Cond.classLink "FlockHuts" (175 : Nat) "FlockHuts$Hut") ∈ lw_all := lw_g (lw_at lw_m6 210 rfl) rfl
theorem q1487 : (Jvm.Cond.methodLink "FlockHuts" (179 : Nat) ({ cls := "FlockHuts$Field$Flock", name := "count", desc := "()I" } : Jvm.MethodName)) ∈ lw_all := lw_g (lw_at lw_m6 211 rfl) rfl
theorem q1488 : (Jvm.Cond.methodLink "FlockHuts" (184 : Nat) ({ cls := "FlockHuts$Field$Flock", name := "weight", desc := "()I" } : Jvm.MethodName)) ∈ lw_all := lw_g (lw_at lw_m6 212 rfl) rfl
theorem q1489 : (Jvm.Cond.methodLink "FlockHuts" (186 : Nat) ({ cls := "FlockHuts$Field$Flock", name := "spread", desc := "()I" } : Jvm.MethodName)) ∈ lw_all := lw_g (lw_at lw_m6 213 rfl) rfl
theorem q1490 : (Jvm.Cond.methodLink "FlockHuts" (189 : Nat) ({ cls := "FlockHuts$Field$Flock", name := "farthest", desc := "()LFlockHuts$Sheep;" } : Jvm.MethodName)) ∈ lw_all := lw_g (lw_at lw_m6 214 rfl) rfl
theorem q1494 : (Jvm.Cond.methodLink "FlockHuts" (193 : Nat) ({ cls := "java/util/ArrayList", name := "indexOf", desc := "(Ljava/lang/Object;)I" } : Jvm.MethodName)) ∈ lw_all := lw_g (lw_at lw_m6 218 rfl) rfl
theorem q1495 : (Jvm.Cond.methodLink "FlockHuts" (197 : Nat) ({ cls := "FlockHuts", name := "dogsAt", desc := "(I)I" } : Jvm.MethodName)) ∈ lw_all := lw_g (lw_at lw_m6 219 rfl) rfl
theorem q1496 : (Jvm.Cond.privateMethod ({ cls := "FlockHuts", name := "dogsAt", desc := "(I)I" } : Jvm.MethodName)) ∈ lw_tbl := lw_at lw_m6 220 rfl
theorem q1497 : (Jvm.Cond.instanceMethod ({ cls := "FlockHuts", name := "dogsAt", desc := "(I)I" } : Jvm.MethodName)) ∈ lw_all := lw_g (lw_at lw_m6 221 rfl) rfl
theorem q1498 : (Jvm.Cond.code ({ cls := "FlockHuts", name := "dogsAt", desc := "(I)I" } : Jvm.MethodName) prog_1_method_19_code (7 : Nat) (Option.some Jvm.ClassFile.FieldType.int)) ∈ lw_all := lw_g (lw_at lw_m6 222 rfl) rfl
theorem q1503 : (Jvm.Cond.instanceMethod ({ cls := "FlockHuts", name := "round", desc := "()I" } : Jvm.MethodName)) ∈ lw_all := lw_g (lw_at lw_m6 227 rfl) rfl
theorem q1504 : (Jvm.Cond.selects "FlockHuts" ({ cls := "FlockHuts", name := "round", desc := "()I" } : Jvm.MethodName) ({ cls := "FlockHuts", name := "round", desc := "()I" } : Jvm.MethodName)) ∈ lw_all := lw_g (lw_at lw_m6 228 rfl) rfl
theorem q1505 : (Jvm.Cond.code ({ cls := "FlockHuts", name := "round", desc := "()I" } : Jvm.MethodName) prog_1_method_21_code (1 : Nat) (Option.some Jvm.ClassFile.FieldType.int)) ∈ lw_all := lw_g (lw_at lw_m6 229 rfl) rfl
theorem q1506 : (Jvm.Cond.stringRef "FlockHuts" (201 : Nat) "round") ∈ lw_tbl := lw_at lw_m6 230 rfl
theorem q1511 : (Jvm.Cond.instanceMethod ({ cls := "FlockHuts", name := "settle", desc := "(I)I" } : Jvm.MethodName)) ∈ lw_all := lw_g (lw_at lw_m6 235 rfl) rfl
theorem q1512 : (Jvm.Cond.selects "FlockHuts" ({ cls := "FlockHuts", name := "settle", desc := "(I)I" } : Jvm.MethodName) ({ cls := "FlockHuts", name := "settle", desc := "(I)I" } : Jvm.MethodName)) ∈ lw_all := lw_g (lw_at lw_m6 236 rfl) rfl
theorem q1513 : (Jvm.Cond.code ({ cls := "FlockHuts", name := "settle", desc := "(I)I" } : Jvm.MethodName) prog_1_method_22_code (2 : Nat) (Option.some Jvm.ClassFile.FieldType.int)) ∈ lw_all := lw_g (lw_at lw_m6 237 rfl) rfl
theorem q1514 : (Jvm.Cond.stringRef "FlockHuts" (203 : Nat) "settle") ∈ lw_tbl := lw_at lw_m6 238 rfl
theorem q1520 : (Jvm.Cond.instanceMethod ({ cls := "FlockHuts", name := "spreadAfter", desc := "(I)I" } : Jvm.MethodName)) ∈ lw_all := lw_g (lw_at lw_m7 4 rfl) rfl
theorem q1521 : (Jvm.Cond.selects "FlockHuts" ({ cls := "FlockHuts", name := "spreadAfter", desc := "(I)I" } : Jvm.MethodName) ({ cls := "FlockHuts", name := "spreadAfter", desc := "(I)I" } : Jvm.MethodName)) ∈ lw_all := lw_g (lw_at lw_m7 5 rfl) rfl
theorem q1522 : (Jvm.Cond.code ({ cls := "FlockHuts", name := "spreadAfter", desc := "(I)I" } : Jvm.MethodName) prog_1_method_26_code (2 : Nat) (Option.some Jvm.ClassFile.FieldType.int)) ∈ lw_all := lw_g (lw_at lw_m7 6 rfl) rfl
theorem q1523 : (Jvm.Cond.constantLong "FlockHuts" (216 : Nat) (20 : Int64)) ∈ lw_all := lw_g (lw_at lw_m7 7 rfl) rfl
theorem q1524 : (Jvm.Cond.methodLink "FlockHuts" (218 : Nat) ({ cls := "FlockHuts$Field", name := "spreadAfter", desc := "(I)I" } : Jvm.MethodName)) ∈ lw_all := lw_g (lw_at lw_m7 8 rfl) rfl
theorem q1533 : (Jvm.Cond.instanceMethod ({ cls := "FlockHuts", name := "spreadWith", desc := "(II)I" } : Jvm.MethodName)) ∈ lw_all := lw_g (lw_at lw_m7 17 rfl) rfl
theorem q1534 : (Jvm.Cond.selects "FlockHuts" ({ cls := "FlockHuts", name := "spreadWith", desc := "(II)I" } : Jvm.MethodName) ({ cls := "FlockHuts", name := "spreadWith", desc := "(II)I" } : Jvm.MethodName)) ∈ lw_all := lw_g (lw_at lw_m7 18 rfl) rfl
theorem q1535 : (Jvm.Cond.code ({ cls := "FlockHuts", name := "spreadWith", desc := "(II)I" } : Jvm.MethodName) prog_1_method_27_code (3 : Nat) (Option.some Jvm.ClassFile.FieldType.int)) ∈ lw_all := lw_g (lw_at lw_m7 19 rfl) rfl
theorem q1536 : (Jvm.Cond.methodLink "FlockHuts" (221 : Nat) ({ cls := "FlockHuts", name := "checkPlaces", desc := "([I)V" } : Jvm.MethodName)) ∈ lw_all := lw_g (lw_at lw_m7 20 rfl) rfl
theorem q1537 : (Jvm.Cond.methodLink "FlockHuts" (225 : Nat) ({ cls := "FlockHuts$Placed", name := "at", desc := "(II)LFlockHuts$Placed;" } : Jvm.MethodName)) ∈ lw_all := lw_g (lw_at lw_m7 21 rfl) rfl
theorem q1538 : (Jvm.Cond.methodLink "FlockHuts" (231 : Nat) ({ cls := "FlockHuts$Field", name := "spreadWith", desc := "(LFlockHuts$Placed;)I" } : Jvm.MethodName)) ∈ lw_all := lw_g (lw_at lw_m7 22 rfl) rfl
theorem q1546 : (Jvm.Cond.instanceMethod ({ cls := "FlockHuts", name := "nearest", desc := "(II)I" } : Jvm.MethodName)) ∈ lw_all := lw_g (lw_at lw_m7 30 rfl) rfl
theorem q1547 : (Jvm.Cond.selects "FlockHuts" ({ cls := "FlockHuts", name := "nearest", desc := "(II)I" } : Jvm.MethodName) ({ cls := "FlockHuts", name := "nearest", desc := "(II)I" } : Jvm.MethodName)) ∈ lw_all := lw_g (lw_at lw_m7 31 rfl) rfl
theorem q1548 : (Jvm.Cond.code ({ cls := "FlockHuts", name := "nearest", desc := "(II)I" } : Jvm.MethodName) prog_1_method_28_code (4 : Nat) (Option.some Jvm.ClassFile.FieldType.int)) ∈ lw_all := lw_g (lw_at lw_m7 32 rfl) rfl
theorem q1549 : (Jvm.Cond.methodLink "FlockHuts" (234 : Nat) ({ cls := "FlockHuts", name := "checkElement", desc := "(Z)V" } : Jvm.MethodName)) ∈ lw_all := lw_g (lw_at lw_m7 33 rfl) rfl
theorem q1554 : (Jvm.Cond.instanceMethod ({ cls := "FlockHuts", name := "stray", desc := "(I)I" } : Jvm.MethodName)) ∈ lw_all := lw_g (lw_at lw_m7 38 rfl) rfl
theorem q1555 : (Jvm.Cond.selects "FlockHuts" ({ cls := "FlockHuts", name := "stray", desc := "(I)I" } : Jvm.MethodName) ({ cls := "FlockHuts", name := "stray", desc := "(I)I" } : Jvm.MethodName)) ∈ lw_all := lw_g (lw_at lw_m7 39 rfl) rfl
theorem q1556 : (Jvm.Cond.code ({ cls := "FlockHuts", name := "stray", desc := "(I)I" } : Jvm.MethodName) prog_1_method_30_code (3 : Nat) (Option.some Jvm.ClassFile.FieldType.int)) ∈ lw_all := lw_g (lw_at lw_m7 40 rfl) rfl
theorem q1561 : (Jvm.Cond.instanceMethod ({ cls := "FlockHuts", name := "dog", desc := "(II)I" } : Jvm.MethodName)) ∈ lw_all := lw_g (lw_at lw_m7 45 rfl) rfl
theorem q1562 : (Jvm.Cond.selects "FlockHuts" ({ cls := "FlockHuts", name := "dog", desc := "(II)I" } : Jvm.MethodName) ({ cls := "FlockHuts", name := "dog", desc := "(II)I" } : Jvm.MethodName)) ∈ lw_all := lw_g (lw_at lw_m7 46 rfl) rfl
theorem q1563 : (Jvm.Cond.code ({ cls := "FlockHuts", name := "dog", desc := "(II)I" } : Jvm.MethodName) prog_1_method_31_code (3 : Nat) (Option.some Jvm.ClassFile.FieldType.int)) ∈ lw_all := lw_g (lw_at lw_m7 47 rfl) rfl
theorem q1564 : (Jvm.Cond.stringRef "FlockHuts" (241 : Nat) "dog") ∈ lw_tbl := lw_at lw_m7 48 rfl
theorem q1569 : (Jvm.Cond.instanceMethod ({ cls := "FlockHuts", name := "fetch", desc := "(I)I" } : Jvm.MethodName)) ∈ lw_all := lw_g (lw_at lw_m7 53 rfl) rfl
theorem q1570 : (Jvm.Cond.selects "FlockHuts" ({ cls := "FlockHuts", name := "fetch", desc := "(I)I" } : Jvm.MethodName) ({ cls := "FlockHuts", name := "fetch", desc := "(I)I" } : Jvm.MethodName)) ∈ lw_all := lw_g (lw_at lw_m7 54 rfl) rfl
theorem q1571 : (Jvm.Cond.code ({ cls := "FlockHuts", name := "fetch", desc := "(I)I" } : Jvm.MethodName) prog_1_method_32_code (2 : Nat) (Option.some Jvm.ClassFile.FieldType.int)) ∈ lw_all := lw_g (lw_at lw_m7 55 rfl) rfl
theorem q1572 : (Jvm.Cond.stringRef "FlockHuts" (243 : Nat) "fetch") ∈ lw_tbl := lw_at lw_m7 56 rfl
theorem q1577 : (Jvm.Cond.instanceMethod ({ cls := "FlockHuts", name := "dogAt", desc := "(I)I" } : Jvm.MethodName)) ∈ lw_all := lw_g (lw_at lw_m7 61 rfl) rfl
theorem q1578 : (Jvm.Cond.selects "FlockHuts" ({ cls := "FlockHuts", name := "dogAt", desc := "(I)I" } : Jvm.MethodName) ({ cls := "FlockHuts", name := "dogAt", desc := "(I)I" } : Jvm.MethodName)) ∈ lw_all := lw_g (lw_at lw_m7 62 rfl) rfl
theorem q1579 : (Jvm.Cond.code ({ cls := "FlockHuts", name := "dogAt", desc := "(I)I" } : Jvm.MethodName) prog_1_method_33_code (2 : Nat) (Option.some Jvm.ClassFile.FieldType.int)) ∈ lw_all := lw_g (lw_at lw_m7 63 rfl) rfl
theorem q1580 : (Jvm.Cond.methodLink "FlockHuts" (245 : Nat) ({ cls := "FlockHuts$Field", name := "checkDog", desc := "(I)V" } : Jvm.MethodName)) ∈ lw_all := lw_g (lw_at lw_m7 64 rfl) rfl
theorem q1585 : (Jvm.Cond.instanceMethod ({ cls := "FlockHuts", name := "apart", desc := "(II)I" } : Jvm.MethodName)) ∈ lw_all := lw_g (lw_at lw_m7 69 rfl) rfl
theorem q1586 : (Jvm.Cond.selects "FlockHuts" ({ cls := "FlockHuts", name := "apart", desc := "(II)I" } : Jvm.MethodName) ({ cls := "FlockHuts", name := "apart", desc := "(II)I" } : Jvm.MethodName)) ∈ lw_all := lw_g (lw_at lw_m7 70 rfl) rfl
theorem q1587 : (Jvm.Cond.code ({ cls := "FlockHuts", name := "apart", desc := "(II)I" } : Jvm.MethodName) prog_1_method_34_code (3 : Nat) (Option.some Jvm.ClassFile.FieldType.int)) ∈ lw_all := lw_g (lw_at lw_m7 71 rfl) rfl
theorem q1588 : (Jvm.Cond.methodLink "FlockHuts" (248 : Nat) ({ cls := "FlockHuts$Field", name := "checkHuts", desc := "(II)V" } : Jvm.MethodName)) ∈ lw_all := lw_g (lw_at lw_m7 72 rfl) rfl
theorem q1592 : (Jvm.Cond.classLink "FlockHuts" (226 : Nat) "FlockHuts$Placed") ∈ lw_all := lw_g (lw_at lw_m7 76 rfl) rfl
theorem q1597 : (Jvm.Cond.instanceMethod ({ cls := "FlockHuts", name := "ranked", desc := "(I)I" } : Jvm.MethodName)) ∈ lw_all := lw_g (lw_at lw_m7 81 rfl) rfl
theorem q1598 : (Jvm.Cond.selects "FlockHuts" ({ cls := "FlockHuts", name := "ranked", desc := "(I)I" } : Jvm.MethodName) ({ cls := "FlockHuts", name := "ranked", desc := "(I)I" } : Jvm.MethodName)) ∈ lw_all := lw_g (lw_at lw_m7 82 rfl) rfl
theorem q1599 : (Jvm.Cond.code ({ cls := "FlockHuts", name := "ranked", desc := "(I)I" } : Jvm.MethodName) prog_1_method_35_code (3 : Nat) (Option.some Jvm.ClassFile.FieldType.int)) ∈ lw_all := lw_g (lw_at lw_m7 83 rfl) rfl
theorem q1600 : (Jvm.Cond.methodLink "FlockHuts" (254 : Nat) ({ cls := "FlockHuts$Field", name := "ranked", desc := "(I)I" } : Jvm.MethodName)) ∈ lw_all := lw_g (lw_at lw_m7 84 rfl) rfl
theorem q1613 : (Jvm.Cond.instanceMethod ({ cls := "FlockHuts", name := "hutLine", desc := "(I)I" } : Jvm.MethodName)) ∈ lw_all := lw_g (lw_at lw_m7 97 rfl) rfl
theorem q1614 : (Jvm.Cond.selects "FlockHuts" ({ cls := "FlockHuts", name := "hutLine", desc := "(I)I" } : Jvm.MethodName) ({ cls := "FlockHuts", name := "hutLine", desc := "(I)I" } : Jvm.MethodName)) ∈ lw_all := lw_g (lw_at lw_m7 98 rfl) rfl
theorem q1615 : (Jvm.Cond.code ({ cls := "FlockHuts", name := "hutLine", desc := "(I)I" } : Jvm.MethodName) prog_1_method_37_code (2 : Nat) (Option.some Jvm.ClassFile.FieldType.int)) ∈ lw_all := lw_g (lw_at lw_m7 99 rfl) rfl
theorem q1616 : (Jvm.Cond.methodLink "FlockHuts" (260 : Nat) ({ cls := "FlockHuts$Field", name := "told", desc := "(I)Ljava/lang/String;" } : Jvm.MethodName)) ∈ lw_all := lw_g (lw_at lw_m7 100 rfl) rfl
theorem q1645 : (Jvm.Cond.instanceMethod ({ cls := "FlockHuts", name := "character", desc := "(I)C" } : Jvm.MethodName)) ∈ lw_all := lw_g (lw_at lw_m7 129 rfl) rfl
theorem q1646 : (Jvm.Cond.selects "FlockHuts" ({ cls := "FlockHuts", name := "character", desc := "(I)C" } : Jvm.MethodName) ({ cls := "FlockHuts", name := "character", desc := "(I)C" } : Jvm.MethodName)) ∈ lw_all := lw_g (lw_at lw_m7 130 rfl) rfl
theorem q1647 : (Jvm.Cond.code ({ cls := "FlockHuts", name := "character", desc := "(I)C" } : Jvm.MethodName) prog_1_method_39_code (2 : Nat) (Option.some Jvm.ClassFile.FieldType.char)) ∈ lw_all := lw_g (lw_at lw_m7 131 rfl) rfl
theorem q1648 : (Jvm.Cond.methodLink "FlockHuts" (272 : Nat) ({ cls := "FlockHuts", name := "checkIndex", desc := "(Z)V" } : Jvm.MethodName)) ∈ lw_all := lw_g (lw_at lw_m7 132 rfl) rfl
theorem q1649 : (Jvm.Cond.methodLink "FlockHuts" (275 : Nat) ({ cls := "java/lang/String", name := "charAt", desc := "(I)C" } : Jvm.MethodName)) ∈ lw_all := lw_g (lw_at lw_m7 133 rfl) rfl
theorem q1665 : (Jvm.Cond.instanceMethod ({ cls := "FlockHuts", name := "refusal", desc := "(Z)I" } : Jvm.MethodName)) ∈ lw_all := lw_g (lw_at lw_m7 149 rfl) rfl
theorem q1666 : (Jvm.Cond.selects "FlockHuts" ({ cls := "FlockHuts", name := "refusal", desc := "(Z)I" } : Jvm.MethodName) ({ cls := "FlockHuts", name := "refusal", desc := "(Z)I" } : Jvm.MethodName)) ∈ lw_all := lw_g (lw_at lw_m7 150 rfl) rfl
theorem q1667 : (Jvm.Cond.code ({ cls := "FlockHuts", name := "refusal", desc := "(Z)I" } : Jvm.MethodName) prog_1_method_40_code (2 : Nat) (Option.some Jvm.ClassFile.FieldType.int)) ∈ lw_all := lw_g (lw_at lw_m7 151 rfl) rfl
theorem q1668 : (Jvm.Cond.methodLink "FlockHuts" (279 : Nat) ({ cls := "FlockHuts", name := "checkState", desc := "(Z)V" } : Jvm.MethodName)) ∈ lw_all := lw_g (lw_at lw_m7 152 rfl) rfl
theorem q1669 : (Jvm.Cond.static ({ cls := "FlockHuts", name := "checkState", desc := "(Z)V" } : Jvm.MethodName)) ∈ lw_all := lw_g (lw_at lw_m7 153 rfl) rfl
theorem q1670 : (Jvm.Cond.code ({ cls := "FlockHuts", name := "checkState", desc := "(Z)V" } : Jvm.MethodName) prog_1_method_4_code (1 : Nat) (Option.none : Option Jvm.ClassFile.FieldType)) ∈ lw_all := lw_g (lw_at lw_m7 154 rfl) rfl
theorem q1671 : (Jvm.Cond.classLink "FlockHuts" (10 : Nat) "java/lang/IllegalStateException") ∈ lw_all := lw_g (lw_at lw_m7 155 rfl) rfl
theorem q1672 : (Jvm.Cond.methodLink "FlockHuts" (12 : Nat) ({ cls := "java/lang/IllegalStateException", name := "<init>", desc := "()V" } : Jvm.MethodName)) ∈ lw_all := lw_g (lw_at lw_m7 156 rfl) rfl
theorem q1680 : (Jvm.Cond.instanceMethod ({ cls := "FlockHuts", name := "account", desc := "(I)I" } : Jvm.MethodName)) ∈ lw_all := lw_g (lw_at lw_m7 164 rfl) rfl
theorem q1681 : (Jvm.Cond.selects "FlockHuts" ({ cls := "FlockHuts", name := "account", desc := "(I)I" } : Jvm.MethodName) ({ cls := "FlockHuts", name := "account", desc := "(I)I" } : Jvm.MethodName)) ∈ lw_all := lw_g (lw_at lw_m7 165 rfl) rfl
theorem q1682 : (Jvm.Cond.code ({ cls := "FlockHuts", name := "account", desc := "(I)I" } : Jvm.MethodName) prog_1_method_43_code (2 : Nat) (Option.some Jvm.ClassFile.FieldType.int)) ∈ lw_all := lw_g (lw_at lw_m7 166 rfl) rfl
theorem q1683 : (Jvm.Cond.methodLink "FlockHuts" (303 : Nat) ({ cls := "FlockHuts", name := "weights", desc := "()I" } : Jvm.MethodName)) ∈ lw_all := lw_g (lw_at lw_m7 167 rfl) rfl
theorem q1684 : (Jvm.Cond.privateMethod ({ cls := "FlockHuts", name := "weights", desc := "()I" } : Jvm.MethodName)) ∈ lw_tbl := lw_at lw_m7 168 rfl
theorem q1685 : (Jvm.Cond.instanceMethod ({ cls := "FlockHuts", name := "weights", desc := "()I" } : Jvm.MethodName)) ∈ lw_all := lw_g (lw_at lw_m7 169 rfl) rfl
theorem q1686 : (Jvm.Cond.code ({ cls := "FlockHuts", name := "weights", desc := "()I" } : Jvm.MethodName) prog_1_method_41_code (4 : Nat) (Option.some Jvm.ClassFile.FieldType.int)) ∈ lw_all := lw_g (lw_at lw_m7 170 rfl) rfl
theorem q1687 : (Jvm.Cond.methodLink "FlockHuts" (288 : Nat) ({ cls := "java/util/ArrayList", name := "iterator", desc := "()Ljava/util/Iterator;" } : Jvm.MethodName)) ∈ lw_all := lw_g (lw_at lw_m7 171 rfl) rfl
theorem q1688 : (Jvm.Cond.interfaceEntry "FlockHuts" (292 : Nat)) ∈ lw_tbl := lw_at lw_m7 172 rfl
theorem q1689 : (Jvm.Cond.methodLink "FlockHuts" (292 : Nat) ({ cls := "java/util/Iterator", name := "hasNext", desc := "()Z" } : Jvm.MethodName)) ∈ lw_all := lw_g (lw_at lw_m7 173 rfl) rfl
theorem q1690 : (Jvm.Cond.interfaceEntry "FlockHuts" (297 : Nat)) ∈ lw_tbl := lw_at lw_m7 174 rfl
theorem q1691 : (Jvm.Cond.methodLink "FlockHuts" (297 : Nat) ({ cls := "java/util/Iterator", name := "next", desc := "()Ljava/lang/Object;" } : Jvm.MethodName)) ∈ lw_all := lw_g (lw_at lw_m7 175 rfl) rfl
theorem q1692 : (Jvm.Cond.classLink "FlockHuts" (132 : Nat) "FlockHuts$Sheep") ∈ lw_all := lw_g (lw_at lw_m7 176 rfl) rfl
theorem q1693 : (Jvm.Cond.methodLink "FlockHuts" (306 : Nat) ({ cls := "FlockHuts", name := "emptyHuts", desc := "()I" } : Jvm.MethodName)) ∈ lw_all := lw_g (lw_at lw_m7 177 rfl) rfl
theorem q1694 : (Jvm.Cond.privateMethod ({ cls := "FlockHuts", name := "emptyHuts", desc := "()I" } : Jvm.MethodName)) ∈ lw_tbl := lw_at lw_m7 178 rfl
theorem q1695 : (Jvm.Cond.instanceMethod ({ cls := "FlockHuts", name := "emptyHuts", desc := "()I" } : Jvm.MethodName)) ∈ lw_all := lw_g (lw_at lw_m7 179 rfl) rfl
theorem q1696 : (Jvm.Cond.code ({ cls := "FlockHuts", name := "emptyHuts", desc := "()I" } : Jvm.MethodName) prog_1_method_42_code (3 : Nat) (Option.some Jvm.ClassFile.FieldType.int)) ∈ lw_all := lw_g (lw_at lw_m7 180 rfl) rfl
theorem q1697 : (Jvm.Cond.methodLink "FlockHuts" (300 : Nat) ({ cls := "FlockHuts$Field$Flock", name := "isEmpty", desc := "()Z" } : Jvm.MethodName)) ∈ lw_all := lw_g (lw_at lw_m7 181 rfl) rfl
theorem q1698 : (Jvm.Cond.methodLink "FlockHuts" (321 : Nat) ({ cls := "java/lang/StringBuilder", name := "length", desc := "()I" } : Jvm.MethodName)) ∈ lw_all := lw_g (lw_at lw_m7 182 rfl) rfl
theorem q1717 : (Jvm.Cond.instanceMethod ({ cls := "FlockHuts", name := "meanDistance", desc := "()D" } : Jvm.MethodName)) ∈ lw_all := lw_g (lw_at lw_m7 201 rfl) rfl
theorem q1718 : (Jvm.Cond.selects "FlockHuts" ({ cls := "FlockHuts", name := "meanDistance", desc := "()D" } : Jvm.MethodName) ({ cls := "FlockHuts", name := "meanDistance", desc := "()D" } : Jvm.MethodName)) ∈ lw_all := lw_g (lw_at lw_m7 202 rfl) rfl
theorem q1719 : (Jvm.Cond.code ({ cls := "FlockHuts", name := "meanDistance", desc := "()D" } : Jvm.MethodName) prog_1_method_44_code (4 : Nat) (Option.some Jvm.ClassFile.FieldType.double)) ∈ lw_all := lw_g (lw_at lw_m7 203 rfl) rfl
theorem q1720 : (Jvm.Cond.methodLink "FlockHuts" (322 : Nat) ({ cls := "FlockHuts$Field$Flock", name := "distances", desc := "()I" } : Jvm.MethodName)) ∈ lw_all := lw_g (lw_at lw_m7 204 rfl) rfl
theorem q1724 : (Jvm.Cond.methodLink "FlockHuts" (325 : Nat) ({ cls := "FlockHuts", name := "checkNumbers", desc := "(Z)V" } : Jvm.MethodName)) ∈ lw_all := lw_g (lw_at lw_m7 208 rfl) rfl
theorem q1725 : (Jvm.Cond.static ({ cls := "FlockHuts", name := "checkNumbers", desc := "(Z)V" } : Jvm.MethodName)) ∈ lw_all := lw_g (lw_at lw_m7 209 rfl) rfl
theorem q1726 : (Jvm.Cond.code ({ cls := "FlockHuts", name := "checkNumbers", desc := "(Z)V" } : Jvm.MethodName) prog_1_method_6_code (1 : Nat) (Option.none : Option Jvm.ClassFile.FieldType)) ∈ lw_all := lw_g (lw_at lw_m7 210 rfl) rfl
theorem q1727 : (Jvm.Cond.classLink "FlockHuts" (16 : Nat) "java/lang/ArithmeticException") ∈ lw_all := lw_g (lw_at lw_m7 211 rfl) rfl
theorem q1728 : (Jvm.Cond.methodLink "FlockHuts" (18 : Nat) ({ cls := "java/lang/ArithmeticException", name := "<init>", desc := "()V" } : Jvm.MethodName)) ∈ lw_all := lw_g (lw_at lw_m7 212 rfl) rfl
theorem q1736 : (Jvm.Cond.instanceMethod ({ cls := "FlockHuts", name := "strayShare", desc := "()F" } : Jvm.MethodName)) ∈ lw_all := lw_g (lw_at lw_m7 220 rfl) rfl
theorem q1737 : (Jvm.Cond.selects "FlockHuts" ({ cls := "FlockHuts", name := "strayShare", desc := "()F" } : Jvm.MethodName) ({ cls := "FlockHuts", name := "strayShare", desc := "()F" } : Jvm.MethodName)) ∈ lw_all := lw_g (lw_at lw_m7 221 rfl) rfl
theorem q1738 : (Jvm.Cond.code ({ cls := "FlockHuts", name := "strayShare", desc := "()F" } : Jvm.MethodName) prog_1_method_45_code (1 : Nat) (Option.some Jvm.ClassFile.FieldType.float)) ∈ lw_all := lw_g (lw_at lw_m7 222 rfl) rfl
theorem q1739 : (Jvm.Cond.methodLink "FlockHuts" (328 : Nat) ({ cls := "java/util/ArrayList", name := "isEmpty", desc := "()Z" } : Jvm.MethodName)) ∈ lw_all := lw_g (lw_at lw_m7 223 rfl) rfl
theorem q1744 : (Jvm.Cond.instanceMethod ({ cls := "FlockHuts", name := "append", desc := "(I)I" } : Jvm.MethodName)) ∈ lw_all := lw_g (lw_at lw_m7 228 rfl) rfl
theorem q1745 : (Jvm.Cond.selects "FlockHuts" ({ cls := "FlockHuts", name := "append", desc := "(I)I" } : Jvm.MethodName) ({ cls := "FlockHuts", name := "append", desc := "(I)I" } : Jvm.MethodName)) ∈ lw_all := lw_g (lw_at lw_m7 229 rfl) rfl
theorem q1746 : (Jvm.Cond.code ({ cls := "FlockHuts", name := "append", desc := "(I)I" } : Jvm.MethodName) prog_1_method_46_code (5 : Nat) (Option.some Jvm.ClassFile.FieldType.int)) ∈ lw_all := lw_g (lw_at lw_m7 230 rfl) rfl
theorem q1747 : (Jvm.Cond.constantLong "FlockHuts" (329 : Nat) (32 : Int64)) ∈ lw_all := lw_g (lw_at lw_m7 231 rfl) rfl
theorem q1748 : (Jvm.Cond.constantLong "FlockHuts" (331 : Nat) (126 : Int64)) ∈ lw_all := lw_g (lw_at lw_m7 232 rfl) rfl
theorem q1749 : (Jvm.Cond.methodLink "FlockHuts" (333 : Nat) ({ cls := "java/lang/StringBuilder", name := "append", desc := "(C)Ljava/lang/StringBuilder;" } : Jvm.MethodName)) ∈ lw_all := lw_g (lw_at lw_m7 233 rfl) rfl
theorem q1754 : (Jvm.Cond.instanceMethod ({ cls := "FlockHuts", name := "read", desc := "()I" } : Jvm.MethodName)) ∈ lw_all := lw_g (lw_at lw_m7 238 rfl) rfl
theorem q1755 : (Jvm.Cond.selects "FlockHuts" ({ cls := "FlockHuts", name := "read", desc := "()I" } : Jvm.MethodName) ({ cls := "FlockHuts", name := "read", desc := "()I" } : Jvm.MethodName)) ∈ lw_all := lw_g (lw_at lw_m7 239 rfl) rfl
theorem q1756 : (Jvm.Cond.codeWith ({ cls := "FlockHuts", name := "read", desc := "()I" } : Jvm.MethodName) prog_1_method_48_code (7 : Nat) (Option.some Jvm.ClassFile.FieldType.int) [((15 : Nat), (57 : Nat), (60 : Nat), (90 : Nat)), ((15 : Nat), (57 : Nat), (81 : Nat), (1 : Nat)), ((15 : Nat), (57 : Nat), (81 : Nat), (7 : Nat))]) ∈ lw_all := lw_g (lw_at lw_m8 0 rfl) rfl
theorem q1757 : (Jvm.Cond.methodLink "FlockHuts" (351 : Nat) ({ cls := "FlockHuts", name := "takeOrders", desc := "()Ljava/util/ArrayList;" } : Jvm.MethodName)) ∈ lw_all := lw_g (lw_at lw_m8 1 rfl) rfl
theorem q1758 : (Jvm.Cond.privateMethod ({ cls := "FlockHuts", name := "takeOrders", desc := "()Ljava/util/ArrayList;" } : Jvm.MethodName)) ∈ lw_tbl := lw_at lw_m8 2 rfl
theorem q1759 : (Jvm.Cond.instanceMethod ({ cls := "FlockHuts", name := "takeOrders", desc := "()Ljava/util/ArrayList;" } : Jvm.MethodName)) ∈ lw_all := lw_g (lw_at lw_m8 3 rfl) rfl
theorem q1760 : (Jvm.Cond.codeWith ({ cls := "FlockHuts", name := "takeOrders", desc := "()Ljava/util/ArrayList;" } : Jvm.MethodName) prog_1_method_47_code (3 : Nat) (Option.some (Jvm.ClassFile.FieldType.object "java/util/ArrayList")) [((23 : Nat), (27 : Nat), (28 : Nat), (345 : Nat))]) ∈ lw_all := lw_g (lw_at lw_m8 4 rfl) rfl
theorem q1761 : (Jvm.Cond.classLink "FlockHuts" (345 : Nat) "FlockHuts$SyntaxException") ∈ lw_all := lw_g (lw_at lw_m8 5 rfl) rfl
theorem q1762 : (Jvm.Cond.classLink "FlockHuts" (337 : Nat) "FlockHuts$Parser") ∈ lw_all := lw_g (lw_at lw_m8 6 rfl) rfl
theorem q1764 : (Jvm.Cond.methodLink "FlockHuts" (339 : Nat) ({ cls := "FlockHuts$Parser", name := "<init>", desc := "(Ljava/lang/CharSequence;)V" } : Jvm.MethodName)) ∈ lw_all := lw_g (lw_at lw_m8 8 rfl) rfl
theorem q1775 : (Jvm.Cond.methodLink "FlockHuts" (342 : Nat) ({ cls := "FlockHuts$Parser", name := "orders", desc := "()Ljava/util/ArrayList;" } : Jvm.MethodName)) ∈ lw_all := lw_g (lw_at lw_m8 19 rfl) rfl
theorem q1891 : (Jvm.Cond.fieldLinkNest "FlockHuts" (354 : Nat) "FlockHuts$SyntaxException" "position" "I" "FlockHuts") ∈ lw_tbl := lw_at lw_m8 135 rfl
theorem q1916 : (Jvm.Cond.instanceMethod ({ cls := "FlockHuts", name := "errorPosition", desc := "()I" } : Jvm.MethodName)) ∈ lw_all := lw_g (lw_at lw_m8 160 rfl) rfl
theorem q1917 : (Jvm.Cond.selects "FlockHuts" ({ cls := "FlockHuts", name := "errorPosition", desc := "()I" } : Jvm.MethodName) ({ cls := "FlockHuts", name := "errorPosition", desc := "()I" } : Jvm.MethodName)) ∈ lw_all := lw_g (lw_at lw_m8 161 rfl) rfl
theorem q1918 : (Jvm.Cond.code ({ cls := "FlockHuts", name := "errorPosition", desc := "()I" } : Jvm.MethodName) prog_1_method_49_code (1 : Nat) (Option.some Jvm.ClassFile.FieldType.int)) ∈ lw_all := lw_g (lw_at lw_m8 162 rfl) rfl
theorem q1923 : (Jvm.Cond.instanceMethod ({ cls := "FlockHuts", name := "refusedItem", desc := "()I" } : Jvm.MethodName)) ∈ lw_all := lw_g (lw_at lw_m8 167 rfl) rfl
theorem q1924 : (Jvm.Cond.selects "FlockHuts" ({ cls := "FlockHuts", name := "refusedItem", desc := "()I" } : Jvm.MethodName) ({ cls := "FlockHuts", name := "refusedItem", desc := "()I" } : Jvm.MethodName)) ∈ lw_all := lw_g (lw_at lw_m8 168 rfl) rfl
theorem q1925 : (Jvm.Cond.code ({ cls := "FlockHuts", name := "refusedItem", desc := "()I" } : Jvm.MethodName) prog_1_method_50_code (1 : Nat) (Option.some Jvm.ClassFile.FieldType.int)) ∈ lw_all := lw_g (lw_at lw_m8 169 rfl) rfl
theorem q1930 : (Jvm.Cond.instanceMethod ({ cls := "FlockHuts", name := "undo", desc := "()I" } : Jvm.MethodName)) ∈ lw_all := lw_g (lw_at lw_m8 174 rfl) rfl
theorem q1931 : (Jvm.Cond.selects "FlockHuts" ({ cls := "FlockHuts", name := "undo", desc := "()I" } : Jvm.MethodName) ({ cls := "FlockHuts", name := "undo", desc := "()I" } : Jvm.MethodName)) ∈ lw_all := lw_g (lw_at lw_m8 175 rfl) rfl
theorem q1932 : (Jvm.Cond.code ({ cls := "FlockHuts", name := "undo", desc := "()I" } : Jvm.MethodName) prog_1_method_51_code (1 : Nat) (Option.some Jvm.ClassFile.FieldType.int)) ∈ lw_all := lw_g (lw_at lw_m8 176 rfl) rfl
theorem q1933 : (Jvm.Cond.methodLink "FlockHuts" (357 : Nat) ({ cls := "java/util/ArrayDeque", name := "isEmpty", desc := "()Z" } : Jvm.MethodName)) ∈ lw_all := lw_g (lw_at lw_m8 177 rfl) rfl
theorem q1937 : (Jvm.Cond.methodLink "FlockHuts" (358 : Nat) ({ cls := "java/util/ArrayDeque", name := "removeLast", desc := "()Ljava/lang/Object;" } : Jvm.MethodName)) ∈ lw_all := lw_g (lw_at lw_m8 181 rfl) rfl
theorem q1952 : (Jvm.Cond.instanceMethod ({ cls := "FlockHuts", name := "restore", desc := "()I" } : Jvm.MethodName)) ∈ lw_all := lw_g (lw_at lw_m8 196 rfl) rfl
theorem q1953 : (Jvm.Cond.selects "FlockHuts" ({ cls := "FlockHuts", name := "restore", desc := "()I" } : Jvm.MethodName) ({ cls := "FlockHuts", name := "restore", desc := "()I" } : Jvm.MethodName)) ∈ lw_all := lw_g (lw_at lw_m8 197 rfl) rfl
theorem q1954 : (Jvm.Cond.code ({ cls := "FlockHuts", name := "restore", desc := "()I" } : Jvm.MethodName) prog_1_method_53_code (1 : Nat) (Option.some Jvm.ClassFile.FieldType.int)) ∈ lw_all := lw_g (lw_at lw_m8 198 rfl) rfl
theorem q2437 : (Jvm.Cond.castable "FlockHuts" "java/lang/Object") ∈ lw_tbl := lw_at lw_m10 201 rfl
theorem in_X1 : ∀ w ∈ wsX10, w ∈ lw_all := lw_in wsX10 [252, 254, 256, 258, 260, 262, 264, 266] (by decide +kernel) (by decide +kernel)

/-! FlockHutsLaw -/
set_option maxRecDepth 100000
def RX0 : String := "FlockHutsLaw"
abbrev cX0_sheep : ByteArray := method_3_code
def yX0_sheep : MethodName := ⟨RX0, "sheep", "(LFlockHuts;III[J)I"⟩
def dkwX0_sheep_1 : List UInt8 := [172]
abbrev dktX0_sheep_1 : List UInt8 := dkwX0_sheep_1 ++ []
def dkwX0_sheep_0 : List UInt8 := [25, 4, 3, 42, 27, 28, 29, 182, 0, 7, 133, 80, 167, 0, 11, 58, 5, 4, 172, 58, 5, 5, 172, 3]
abbrev dktX0_sheep_0 : List UInt8 := dkwX0_sheep_0 ++ dktX0_sheep_1
theorem dksX0_sheep_0 : cX0_sheep.data.toList.drop 0 = dktX0_sheep_0 := by decide +kernel
theorem dksX0_sheep_1 : cX0_sheep.data.toList.drop 24 = dktX0_sheep_1 := dk_seg dksX0_sheep_0 24 rfl rfl
theorem dX0_sheep_0 : decode cX0_sheep 0 = .ok (.aload 4, 2) := dk_25 4 (dk_at dksX0_sheep_0 0 rfl rfl)
theorem dX0_sheep_2 : decode cX0_sheep 2 = .ok (.iconst 0, 1) := dk_3 (dk_at dksX0_sheep_0 2 rfl rfl)
theorem dX0_sheep_3 : decode cX0_sheep 3 = .ok (.aload_n 0, 1) := dk_42 (dk_at dksX0_sheep_0 3 rfl rfl)
theorem dX0_sheep_4 : decode cX0_sheep 4 = .ok (.iload_n 1, 1) := dk_27 (dk_at dksX0_sheep_0 4 rfl rfl)
theorem dX0_sheep_5 : decode cX0_sheep 5 = .ok (.iload_n 2, 1) := dk_28 (dk_at dksX0_sheep_0 5 rfl rfl)
theorem dX0_sheep_6 : decode cX0_sheep 6 = .ok (.iload_n 3, 1) := dk_29 (dk_at dksX0_sheep_0 6 rfl rfl)
theorem dX0_sheep_7 : decode cX0_sheep 7 = .ok (.invokevirtual 7, 3) := dk_182 0 7 (dk_at dksX0_sheep_0 7 rfl rfl)
theorem dX0_sheep_10 : decode cX0_sheep 10 = .ok (.i2l, 1) := dk_133 (dk_at dksX0_sheep_0 10 rfl rfl)
theorem dX0_sheep_11 : decode cX0_sheep 11 = .ok (.lastore, 1) := dk_80 (dk_at dksX0_sheep_0 11 rfl rfl)
theorem dX0_sheep_12 : decode cX0_sheep 12 = .ok (.goto 11, 3) := dk_167 0 11 (dk_at dksX0_sheep_0 12 rfl rfl)
theorem dX0_sheep_15 : decode cX0_sheep 15 = .ok (.astore 5, 2) := dk_58 5 (dk_at dksX0_sheep_0 15 rfl rfl)
theorem dX0_sheep_17 : decode cX0_sheep 17 = .ok (.iconst 1, 1) := dk_4 (dk_at dksX0_sheep_0 17 rfl rfl)
theorem dX0_sheep_18 : decode cX0_sheep 18 = .ok (.ireturn, 1) := dk_172 (dk_at dksX0_sheep_0 18 rfl rfl)
theorem dX0_sheep_19 : decode cX0_sheep 19 = .ok (.astore 5, 2) := dk_58 5 (dk_at dksX0_sheep_0 19 rfl rfl)
theorem dX0_sheep_21 : decode cX0_sheep 21 = .ok (.iconst 2, 1) := dk_5 (dk_at dksX0_sheep_0 21 rfl rfl)
theorem dX0_sheep_22 : decode cX0_sheep 22 = .ok (.ireturn, 1) := dk_172 (dk_at dksX0_sheep_0 22 rfl rfl)
theorem dX0_sheep_23 : decode cX0_sheep 23 = .ok (.iconst 0, 1) := dk_3 (dk_at dksX0_sheep_0 23 rfl rfl)
theorem dX0_sheep_24 : decode cX0_sheep 24 = .ok (.ireturn, 1) := dk_172 (dk_at dksX0_sheep_1 0 rfl rfl)
abbrev cX0_hut : ByteArray := method_4_code
def yX0_hut : MethodName := ⟨RX0, "hut", "(LFlockHuts;II[J)I"⟩
def dkwX0_hut_0 : List UInt8 := [45, 3, 42, 27, 28, 182, 0, 17, 133, 80, 167, 0, 11, 58, 4, 4, 172, 58, 4, 5, 172, 3, 172]
abbrev dktX0_hut_0 : List UInt8 := dkwX0_hut_0 ++ []
theorem dksX0_hut_0 : cX0_hut.data.toList.drop 0 = dktX0_hut_0 := by decide +kernel
theorem dX0_hut_0 : decode cX0_hut 0 = .ok (.aload_n 3, 1) := dk_45 (dk_at dksX0_hut_0 0 rfl rfl)
theorem dX0_hut_1 : decode cX0_hut 1 = .ok (.iconst 0, 1) := dk_3 (dk_at dksX0_hut_0 1 rfl rfl)
theorem dX0_hut_2 : decode cX0_hut 2 = .ok (.aload_n 0, 1) := dk_42 (dk_at dksX0_hut_0 2 rfl rfl)
theorem dX0_hut_3 : decode cX0_hut 3 = .ok (.iload_n 1, 1) := dk_27 (dk_at dksX0_hut_0 3 rfl rfl)
theorem dX0_hut_4 : decode cX0_hut 4 = .ok (.iload_n 2, 1) := dk_28 (dk_at dksX0_hut_0 4 rfl rfl)
theorem dX0_hut_5 : decode cX0_hut 5 = .ok (.invokevirtual 17, 3) := dk_182 0 17 (dk_at dksX0_hut_0 5 rfl rfl)
theorem dX0_hut_8 : decode cX0_hut 8 = .ok (.i2l, 1) := dk_133 (dk_at dksX0_hut_0 8 rfl rfl)
theorem dX0_hut_9 : decode cX0_hut 9 = .ok (.lastore, 1) := dk_80 (dk_at dksX0_hut_0 9 rfl rfl)
theorem dX0_hut_10 : decode cX0_hut 10 = .ok (.goto 11, 3) := dk_167 0 11 (dk_at dksX0_hut_0 10 rfl rfl)
theorem dX0_hut_13 : decode cX0_hut 13 = .ok (.astore 4, 2) := dk_58 4 (dk_at dksX0_hut_0 13 rfl rfl)
theorem dX0_hut_15 : decode cX0_hut 15 = .ok (.iconst 1, 1) := dk_4 (dk_at dksX0_hut_0 15 rfl rfl)
theorem dX0_hut_16 : decode cX0_hut 16 = .ok (.ireturn, 1) := dk_172 (dk_at dksX0_hut_0 16 rfl rfl)
theorem dX0_hut_17 : decode cX0_hut 17 = .ok (.astore 4, 2) := dk_58 4 (dk_at dksX0_hut_0 17 rfl rfl)
theorem dX0_hut_19 : decode cX0_hut 19 = .ok (.iconst 2, 1) := dk_5 (dk_at dksX0_hut_0 19 rfl rfl)
theorem dX0_hut_20 : decode cX0_hut 20 = .ok (.ireturn, 1) := dk_172 (dk_at dksX0_hut_0 20 rfl rfl)
theorem dX0_hut_21 : decode cX0_hut 21 = .ok (.iconst 0, 1) := dk_3 (dk_at dksX0_hut_0 21 rfl rfl)
theorem dX0_hut_22 : decode cX0_hut 22 = .ok (.ireturn, 1) := dk_172 (dk_at dksX0_hut_0 22 rfl rfl)
abbrev cX0_leave : ByteArray := method_5_code
def yX0_leave : MethodName := ⟨RX0, "leave", "(LFlockHuts;I[J)I"⟩
def dkwX0_leave_0 : List UInt8 := [44, 3, 42, 27, 182, 0, 21, 133, 80, 167, 0, 6, 78, 4, 172, 3, 172]
abbrev dktX0_leave_0 : List UInt8 := dkwX0_leave_0 ++ []
theorem dksX0_leave_0 : cX0_leave.data.toList.drop 0 = dktX0_leave_0 := by decide +kernel
theorem dX0_leave_0 : decode cX0_leave 0 = .ok (.aload_n 2, 1) := dk_44 (dk_at dksX0_leave_0 0 rfl rfl)
theorem dX0_leave_1 : decode cX0_leave 1 = .ok (.iconst 0, 1) := dk_3 (dk_at dksX0_leave_0 1 rfl rfl)
theorem dX0_leave_2 : decode cX0_leave 2 = .ok (.aload_n 0, 1) := dk_42 (dk_at dksX0_leave_0 2 rfl rfl)
theorem dX0_leave_3 : decode cX0_leave 3 = .ok (.iload_n 1, 1) := dk_27 (dk_at dksX0_leave_0 3 rfl rfl)
theorem dX0_leave_4 : decode cX0_leave 4 = .ok (.invokevirtual 21, 3) := dk_182 0 21 (dk_at dksX0_leave_0 4 rfl rfl)
theorem dX0_leave_7 : decode cX0_leave 7 = .ok (.i2l, 1) := dk_133 (dk_at dksX0_leave_0 7 rfl rfl)
theorem dX0_leave_8 : decode cX0_leave 8 = .ok (.lastore, 1) := dk_80 (dk_at dksX0_leave_0 8 rfl rfl)
theorem dX0_leave_9 : decode cX0_leave 9 = .ok (.goto 6, 3) := dk_167 0 6 (dk_at dksX0_leave_0 9 rfl rfl)
theorem dX0_leave_12 : decode cX0_leave 12 = .ok (.astore_n 3, 1) := dk_78 (dk_at dksX0_leave_0 12 rfl rfl)
theorem dX0_leave_13 : decode cX0_leave 13 = .ok (.iconst 1, 1) := dk_4 (dk_at dksX0_leave_0 13 rfl rfl)
theorem dX0_leave_14 : decode cX0_leave 14 = .ok (.ireturn, 1) := dk_172 (dk_at dksX0_leave_0 14 rfl rfl)
theorem dX0_leave_15 : decode cX0_leave 15 = .ok (.iconst 0, 1) := dk_3 (dk_at dksX0_leave_0 15 rfl rfl)
theorem dX0_leave_16 : decode cX0_leave 16 = .ok (.ireturn, 1) := dk_172 (dk_at dksX0_leave_0 16 rfl rfl)
abbrev cX0_strike : ByteArray := method_6_code
def yX0_strike : MethodName := ⟨RX0, "strike", "(LFlockHuts;I[J)I"⟩
def dkwX0_strike_0 : List UInt8 := [44, 3, 42, 27, 182, 0, 27, 133, 80, 167, 0, 6, 78, 4, 172, 3, 172]
abbrev dktX0_strike_0 : List UInt8 := dkwX0_strike_0 ++ []
theorem dksX0_strike_0 : cX0_strike.data.toList.drop 0 = dktX0_strike_0 := by decide +kernel
theorem dX0_strike_0 : decode cX0_strike 0 = .ok (.aload_n 2, 1) := dk_44 (dk_at dksX0_strike_0 0 rfl rfl)
theorem dX0_strike_1 : decode cX0_strike 1 = .ok (.iconst 0, 1) := dk_3 (dk_at dksX0_strike_0 1 rfl rfl)
theorem dX0_strike_2 : decode cX0_strike 2 = .ok (.aload_n 0, 1) := dk_42 (dk_at dksX0_strike_0 2 rfl rfl)
theorem dX0_strike_3 : decode cX0_strike 3 = .ok (.iload_n 1, 1) := dk_27 (dk_at dksX0_strike_0 3 rfl rfl)
theorem dX0_strike_4 : decode cX0_strike 4 = .ok (.invokevirtual 27, 3) := dk_182 0 27 (dk_at dksX0_strike_0 4 rfl rfl)
theorem dX0_strike_7 : decode cX0_strike 7 = .ok (.i2l, 1) := dk_133 (dk_at dksX0_strike_0 7 rfl rfl)
theorem dX0_strike_8 : decode cX0_strike 8 = .ok (.lastore, 1) := dk_80 (dk_at dksX0_strike_0 8 rfl rfl)
theorem dX0_strike_9 : decode cX0_strike 9 = .ok (.goto 6, 3) := dk_167 0 6 (dk_at dksX0_strike_0 9 rfl rfl)
theorem dX0_strike_12 : decode cX0_strike 12 = .ok (.astore_n 3, 1) := dk_78 (dk_at dksX0_strike_0 12 rfl rfl)
theorem dX0_strike_13 : decode cX0_strike 13 = .ok (.iconst 1, 1) := dk_4 (dk_at dksX0_strike_0 13 rfl rfl)
theorem dX0_strike_14 : decode cX0_strike 14 = .ok (.ireturn, 1) := dk_172 (dk_at dksX0_strike_0 14 rfl rfl)
theorem dX0_strike_15 : decode cX0_strike 15 = .ok (.iconst 0, 1) := dk_3 (dk_at dksX0_strike_0 15 rfl rfl)
theorem dX0_strike_16 : decode cX0_strike 16 = .ok (.ireturn, 1) := dk_172 (dk_at dksX0_strike_0 16 rfl rfl)
abbrev cX0_move : ByteArray := method_7_code
def yX0_move : MethodName := ⟨RX0, "move", "(LFlockHuts;III[J)I"⟩
def dkwX0_move_1 : List UInt8 := [58, 5, 6, 172, 3, 172]
abbrev dktX0_move_1 : List UInt8 := dkwX0_move_1 ++ []
def dkwX0_move_0 : List UInt8 := [25, 4, 3, 42, 27, 28, 29, 182, 0, 30, 133, 80, 167, 0, 15, 58, 5, 4, 172, 58, 5, 5, 172]
abbrev dktX0_move_0 : List UInt8 := dkwX0_move_0 ++ dktX0_move_1
theorem dksX0_move_0 : cX0_move.data.toList.drop 0 = dktX0_move_0 := by decide +kernel
theorem dksX0_move_1 : cX0_move.data.toList.drop 23 = dktX0_move_1 := dk_seg dksX0_move_0 23 rfl rfl
theorem dX0_move_0 : decode cX0_move 0 = .ok (.aload 4, 2) := dk_25 4 (dk_at dksX0_move_0 0 rfl rfl)
theorem dX0_move_2 : decode cX0_move 2 = .ok (.iconst 0, 1) := dk_3 (dk_at dksX0_move_0 2 rfl rfl)
theorem dX0_move_3 : decode cX0_move 3 = .ok (.aload_n 0, 1) := dk_42 (dk_at dksX0_move_0 3 rfl rfl)
theorem dX0_move_4 : decode cX0_move 4 = .ok (.iload_n 1, 1) := dk_27 (dk_at dksX0_move_0 4 rfl rfl)
theorem dX0_move_5 : decode cX0_move 5 = .ok (.iload_n 2, 1) := dk_28 (dk_at dksX0_move_0 5 rfl rfl)
theorem dX0_move_6 : decode cX0_move 6 = .ok (.iload_n 3, 1) := dk_29 (dk_at dksX0_move_0 6 rfl rfl)
theorem dX0_move_7 : decode cX0_move 7 = .ok (.invokevirtual 30, 3) := dk_182 0 30 (dk_at dksX0_move_0 7 rfl rfl)
theorem dX0_move_10 : decode cX0_move 10 = .ok (.i2l, 1) := dk_133 (dk_at dksX0_move_0 10 rfl rfl)
theorem dX0_move_11 : decode cX0_move 11 = .ok (.lastore, 1) := dk_80 (dk_at dksX0_move_0 11 rfl rfl)
theorem dX0_move_12 : decode cX0_move 12 = .ok (.goto 15, 3) := dk_167 0 15 (dk_at dksX0_move_0 12 rfl rfl)
theorem dX0_move_15 : decode cX0_move 15 = .ok (.astore 5, 2) := dk_58 5 (dk_at dksX0_move_0 15 rfl rfl)
theorem dX0_move_17 : decode cX0_move 17 = .ok (.iconst 1, 1) := dk_4 (dk_at dksX0_move_0 17 rfl rfl)
theorem dX0_move_18 : decode cX0_move 18 = .ok (.ireturn, 1) := dk_172 (dk_at dksX0_move_0 18 rfl rfl)
theorem dX0_move_19 : decode cX0_move 19 = .ok (.astore 5, 2) := dk_58 5 (dk_at dksX0_move_0 19 rfl rfl)
theorem dX0_move_21 : decode cX0_move 21 = .ok (.iconst 2, 1) := dk_5 (dk_at dksX0_move_0 21 rfl rfl)
theorem dX0_move_22 : decode cX0_move 22 = .ok (.ireturn, 1) := dk_172 (dk_at dksX0_move_0 22 rfl rfl)
theorem dX0_move_23 : decode cX0_move 23 = .ok (.astore 5, 2) := dk_58 5 (dk_at dksX0_move_1 0 rfl rfl)
theorem dX0_move_25 : decode cX0_move 25 = .ok (.iconst 3, 1) := dk_6 (dk_at dksX0_move_1 2 rfl rfl)
theorem dX0_move_26 : decode cX0_move 26 = .ok (.ireturn, 1) := dk_172 (dk_at dksX0_move_1 3 rfl rfl)
theorem dX0_move_27 : decode cX0_move 27 = .ok (.iconst 0, 1) := dk_3 (dk_at dksX0_move_1 4 rfl rfl)
theorem dX0_move_28 : decode cX0_move 28 = .ok (.ireturn, 1) := dk_172 (dk_at dksX0_move_1 5 rfl rfl)
abbrev cX0_weigh : ByteArray := method_8_code
def yX0_weigh : MethodName := ⟨RX0, "weigh", "(LFlockHuts;II[J)I"⟩
def dkwX0_weigh_1 : List UInt8 := [172, 3, 172]
abbrev dktX0_weigh_1 : List UInt8 := dkwX0_weigh_1 ++ []
def dkwX0_weigh_0 : List UInt8 := [45, 3, 42, 27, 28, 182, 0, 33, 133, 80, 167, 0, 15, 58, 4, 4, 172, 58, 4, 5, 172, 58, 4, 6]
abbrev dktX0_weigh_0 : List UInt8 := dkwX0_weigh_0 ++ dktX0_weigh_1
theorem dksX0_weigh_0 : cX0_weigh.data.toList.drop 0 = dktX0_weigh_0 := by decide +kernel
theorem dksX0_weigh_1 : cX0_weigh.data.toList.drop 24 = dktX0_weigh_1 := dk_seg dksX0_weigh_0 24 rfl rfl
theorem dX0_weigh_0 : decode cX0_weigh 0 = .ok (.aload_n 3, 1) := dk_45 (dk_at dksX0_weigh_0 0 rfl rfl)
theorem dX0_weigh_1 : decode cX0_weigh 1 = .ok (.iconst 0, 1) := dk_3 (dk_at dksX0_weigh_0 1 rfl rfl)
theorem dX0_weigh_2 : decode cX0_weigh 2 = .ok (.aload_n 0, 1) := dk_42 (dk_at dksX0_weigh_0 2 rfl rfl)
theorem dX0_weigh_3 : decode cX0_weigh 3 = .ok (.iload_n 1, 1) := dk_27 (dk_at dksX0_weigh_0 3 rfl rfl)
theorem dX0_weigh_4 : decode cX0_weigh 4 = .ok (.iload_n 2, 1) := dk_28 (dk_at dksX0_weigh_0 4 rfl rfl)
theorem dX0_weigh_5 : decode cX0_weigh 5 = .ok (.invokevirtual 33, 3) := dk_182 0 33 (dk_at dksX0_weigh_0 5 rfl rfl)
theorem dX0_weigh_8 : decode cX0_weigh 8 = .ok (.i2l, 1) := dk_133 (dk_at dksX0_weigh_0 8 rfl rfl)
theorem dX0_weigh_9 : decode cX0_weigh 9 = .ok (.lastore, 1) := dk_80 (dk_at dksX0_weigh_0 9 rfl rfl)
theorem dX0_weigh_10 : decode cX0_weigh 10 = .ok (.goto 15, 3) := dk_167 0 15 (dk_at dksX0_weigh_0 10 rfl rfl)
theorem dX0_weigh_13 : decode cX0_weigh 13 = .ok (.astore 4, 2) := dk_58 4 (dk_at dksX0_weigh_0 13 rfl rfl)
theorem dX0_weigh_15 : decode cX0_weigh 15 = .ok (.iconst 1, 1) := dk_4 (dk_at dksX0_weigh_0 15 rfl rfl)
theorem dX0_weigh_16 : decode cX0_weigh 16 = .ok (.ireturn, 1) := dk_172 (dk_at dksX0_weigh_0 16 rfl rfl)
theorem dX0_weigh_17 : decode cX0_weigh 17 = .ok (.astore 4, 2) := dk_58 4 (dk_at dksX0_weigh_0 17 rfl rfl)
theorem dX0_weigh_19 : decode cX0_weigh 19 = .ok (.iconst 2, 1) := dk_5 (dk_at dksX0_weigh_0 19 rfl rfl)
theorem dX0_weigh_20 : decode cX0_weigh 20 = .ok (.ireturn, 1) := dk_172 (dk_at dksX0_weigh_0 20 rfl rfl)
theorem dX0_weigh_21 : decode cX0_weigh 21 = .ok (.astore 4, 2) := dk_58 4 (dk_at dksX0_weigh_0 21 rfl rfl)
theorem dX0_weigh_23 : decode cX0_weigh 23 = .ok (.iconst 3, 1) := dk_6 (dk_at dksX0_weigh_0 23 rfl rfl)
theorem dX0_weigh_24 : decode cX0_weigh 24 = .ok (.ireturn, 1) := dk_172 (dk_at dksX0_weigh_1 0 rfl rfl)
theorem dX0_weigh_25 : decode cX0_weigh 25 = .ok (.iconst 0, 1) := dk_3 (dk_at dksX0_weigh_1 1 rfl rfl)
theorem dX0_weigh_26 : decode cX0_weigh 26 = .ok (.ireturn, 1) := dk_172 (dk_at dksX0_weigh_1 2 rfl rfl)
abbrev cX0_sheepOf : ByteArray := method_9_code
def yX0_sheepOf : MethodName := ⟨RX0, "sheepOf", "(LFlockHuts;II[J)I"⟩
def dkwX0_sheepOf_0 : List UInt8 := [45, 3, 42, 27, 28, 182, 0, 36, 133, 80, 167, 0, 11, 58, 4, 4, 172, 58, 4, 5, 172, 3, 172]
abbrev dktX0_sheepOf_0 : List UInt8 := dkwX0_sheepOf_0 ++ []
theorem dksX0_sheepOf_0 : cX0_sheepOf.data.toList.drop 0 = dktX0_sheepOf_0 := by decide +kernel
theorem dX0_sheepOf_0 : decode cX0_sheepOf 0 = .ok (.aload_n 3, 1) := dk_45 (dk_at dksX0_sheepOf_0 0 rfl rfl)
theorem dX0_sheepOf_1 : decode cX0_sheepOf 1 = .ok (.iconst 0, 1) := dk_3 (dk_at dksX0_sheepOf_0 1 rfl rfl)
theorem dX0_sheepOf_2 : decode cX0_sheepOf 2 = .ok (.aload_n 0, 1) := dk_42 (dk_at dksX0_sheepOf_0 2 rfl rfl)
theorem dX0_sheepOf_3 : decode cX0_sheepOf 3 = .ok (.iload_n 1, 1) := dk_27 (dk_at dksX0_sheepOf_0 3 rfl rfl)
theorem dX0_sheepOf_4 : decode cX0_sheepOf 4 = .ok (.iload_n 2, 1) := dk_28 (dk_at dksX0_sheepOf_0 4 rfl rfl)
theorem dX0_sheepOf_5 : decode cX0_sheepOf 5 = .ok (.invokevirtual 36, 3) := dk_182 0 36 (dk_at dksX0_sheepOf_0 5 rfl rfl)
theorem dX0_sheepOf_8 : decode cX0_sheepOf 8 = .ok (.i2l, 1) := dk_133 (dk_at dksX0_sheepOf_0 8 rfl rfl)
theorem dX0_sheepOf_9 : decode cX0_sheepOf 9 = .ok (.lastore, 1) := dk_80 (dk_at dksX0_sheepOf_0 9 rfl rfl)
theorem dX0_sheepOf_10 : decode cX0_sheepOf 10 = .ok (.goto 11, 3) := dk_167 0 11 (dk_at dksX0_sheepOf_0 10 rfl rfl)
theorem dX0_sheepOf_13 : decode cX0_sheepOf 13 = .ok (.astore 4, 2) := dk_58 4 (dk_at dksX0_sheepOf_0 13 rfl rfl)
theorem dX0_sheepOf_15 : decode cX0_sheepOf 15 = .ok (.iconst 1, 1) := dk_4 (dk_at dksX0_sheepOf_0 15 rfl rfl)
theorem dX0_sheepOf_16 : decode cX0_sheepOf 16 = .ok (.ireturn, 1) := dk_172 (dk_at dksX0_sheepOf_0 16 rfl rfl)
theorem dX0_sheepOf_17 : decode cX0_sheepOf 17 = .ok (.astore 4, 2) := dk_58 4 (dk_at dksX0_sheepOf_0 17 rfl rfl)
theorem dX0_sheepOf_19 : decode cX0_sheepOf 19 = .ok (.iconst 2, 1) := dk_5 (dk_at dksX0_sheepOf_0 19 rfl rfl)
theorem dX0_sheepOf_20 : decode cX0_sheepOf 20 = .ok (.ireturn, 1) := dk_172 (dk_at dksX0_sheepOf_0 20 rfl rfl)
theorem dX0_sheepOf_21 : decode cX0_sheepOf 21 = .ok (.iconst 0, 1) := dk_3 (dk_at dksX0_sheepOf_0 21 rfl rfl)
theorem dX0_sheepOf_22 : decode cX0_sheepOf 22 = .ok (.ireturn, 1) := dk_172 (dk_at dksX0_sheepOf_0 22 rfl rfl)
abbrev cX0_hutOf : ByteArray := method_10_code
def yX0_hutOf : MethodName := ⟨RX0, "hutOf", "(LFlockHuts;II[J)I"⟩
def dkwX0_hutOf_0 : List UInt8 := [45, 3, 42, 27, 28, 182, 0, 39, 133, 80, 167, 0, 11, 58, 4, 4, 172, 58, 4, 5, 172, 3, 172]
abbrev dktX0_hutOf_0 : List UInt8 := dkwX0_hutOf_0 ++ []
theorem dksX0_hutOf_0 : cX0_hutOf.data.toList.drop 0 = dktX0_hutOf_0 := by decide +kernel
theorem dX0_hutOf_0 : decode cX0_hutOf 0 = .ok (.aload_n 3, 1) := dk_45 (dk_at dksX0_hutOf_0 0 rfl rfl)
theorem dX0_hutOf_1 : decode cX0_hutOf 1 = .ok (.iconst 0, 1) := dk_3 (dk_at dksX0_hutOf_0 1 rfl rfl)
theorem dX0_hutOf_2 : decode cX0_hutOf 2 = .ok (.aload_n 0, 1) := dk_42 (dk_at dksX0_hutOf_0 2 rfl rfl)
theorem dX0_hutOf_3 : decode cX0_hutOf 3 = .ok (.iload_n 1, 1) := dk_27 (dk_at dksX0_hutOf_0 3 rfl rfl)
theorem dX0_hutOf_4 : decode cX0_hutOf 4 = .ok (.iload_n 2, 1) := dk_28 (dk_at dksX0_hutOf_0 4 rfl rfl)
theorem dX0_hutOf_5 : decode cX0_hutOf 5 = .ok (.invokevirtual 39, 3) := dk_182 0 39 (dk_at dksX0_hutOf_0 5 rfl rfl)
theorem dX0_hutOf_8 : decode cX0_hutOf 8 = .ok (.i2l, 1) := dk_133 (dk_at dksX0_hutOf_0 8 rfl rfl)
theorem dX0_hutOf_9 : decode cX0_hutOf 9 = .ok (.lastore, 1) := dk_80 (dk_at dksX0_hutOf_0 9 rfl rfl)
theorem dX0_hutOf_10 : decode cX0_hutOf 10 = .ok (.goto 11, 3) := dk_167 0 11 (dk_at dksX0_hutOf_0 10 rfl rfl)
theorem dX0_hutOf_13 : decode cX0_hutOf 13 = .ok (.astore 4, 2) := dk_58 4 (dk_at dksX0_hutOf_0 13 rfl rfl)
theorem dX0_hutOf_15 : decode cX0_hutOf 15 = .ok (.iconst 1, 1) := dk_4 (dk_at dksX0_hutOf_0 15 rfl rfl)
theorem dX0_hutOf_16 : decode cX0_hutOf 16 = .ok (.ireturn, 1) := dk_172 (dk_at dksX0_hutOf_0 16 rfl rfl)
theorem dX0_hutOf_17 : decode cX0_hutOf 17 = .ok (.astore 4, 2) := dk_58 4 (dk_at dksX0_hutOf_0 17 rfl rfl)
theorem dX0_hutOf_19 : decode cX0_hutOf 19 = .ok (.iconst 2, 1) := dk_5 (dk_at dksX0_hutOf_0 19 rfl rfl)
theorem dX0_hutOf_20 : decode cX0_hutOf 20 = .ok (.ireturn, 1) := dk_172 (dk_at dksX0_hutOf_0 20 rfl rfl)
theorem dX0_hutOf_21 : decode cX0_hutOf 21 = .ok (.iconst 0, 1) := dk_3 (dk_at dksX0_hutOf_0 21 rfl rfl)
theorem dX0_hutOf_22 : decode cX0_hutOf 22 = .ok (.ireturn, 1) := dk_172 (dk_at dksX0_hutOf_0 22 rfl rfl)
abbrev cX0_round : ByteArray := method_11_code
def yX0_round : MethodName := ⟨RX0, "round", "(LFlockHuts;[J)I"⟩
def dkwX0_round_0 : List UInt8 := [43, 3, 42, 182, 0, 42, 133, 80, 167, 0, 6, 77, 4, 172, 3, 172]
abbrev dktX0_round_0 : List UInt8 := dkwX0_round_0 ++ []
theorem dksX0_round_0 : cX0_round.data.toList.drop 0 = dktX0_round_0 := by decide +kernel
theorem dX0_round_0 : decode cX0_round 0 = .ok (.aload_n 1, 1) := dk_43 (dk_at dksX0_round_0 0 rfl rfl)
theorem dX0_round_1 : decode cX0_round 1 = .ok (.iconst 0, 1) := dk_3 (dk_at dksX0_round_0 1 rfl rfl)
theorem dX0_round_2 : decode cX0_round 2 = .ok (.aload_n 0, 1) := dk_42 (dk_at dksX0_round_0 2 rfl rfl)
theorem dX0_round_3 : decode cX0_round 3 = .ok (.invokevirtual 42, 3) := dk_182 0 42 (dk_at dksX0_round_0 3 rfl rfl)
theorem dX0_round_6 : decode cX0_round 6 = .ok (.i2l, 1) := dk_133 (dk_at dksX0_round_0 6 rfl rfl)
theorem dX0_round_7 : decode cX0_round 7 = .ok (.lastore, 1) := dk_80 (dk_at dksX0_round_0 7 rfl rfl)
theorem dX0_round_8 : decode cX0_round 8 = .ok (.goto 6, 3) := dk_167 0 6 (dk_at dksX0_round_0 8 rfl rfl)
theorem dX0_round_11 : decode cX0_round 11 = .ok (.astore_n 2, 1) := dk_77 (dk_at dksX0_round_0 11 rfl rfl)
theorem dX0_round_12 : decode cX0_round 12 = .ok (.iconst 1, 1) := dk_4 (dk_at dksX0_round_0 12 rfl rfl)
theorem dX0_round_13 : decode cX0_round 13 = .ok (.ireturn, 1) := dk_172 (dk_at dksX0_round_0 13 rfl rfl)
theorem dX0_round_14 : decode cX0_round 14 = .ok (.iconst 0, 1) := dk_3 (dk_at dksX0_round_0 14 rfl rfl)
theorem dX0_round_15 : decode cX0_round 15 = .ok (.ireturn, 1) := dk_172 (dk_at dksX0_round_0 15 rfl rfl)
abbrev cX0_settle : ByteArray := method_12_code
def yX0_settle : MethodName := ⟨RX0, "settle", "(LFlockHuts;I[J)I"⟩
def dkwX0_settle_0 : List UInt8 := [44, 3, 42, 27, 182, 0, 46, 133, 80, 167, 0, 9, 78, 4, 172, 78, 5, 172, 3, 172]
abbrev dktX0_settle_0 : List UInt8 := dkwX0_settle_0 ++ []
theorem dksX0_settle_0 : cX0_settle.data.toList.drop 0 = dktX0_settle_0 := by decide +kernel
theorem dX0_settle_0 : decode cX0_settle 0 = .ok (.aload_n 2, 1) := dk_44 (dk_at dksX0_settle_0 0 rfl rfl)
theorem dX0_settle_1 : decode cX0_settle 1 = .ok (.iconst 0, 1) := dk_3 (dk_at dksX0_settle_0 1 rfl rfl)
theorem dX0_settle_2 : decode cX0_settle 2 = .ok (.aload_n 0, 1) := dk_42 (dk_at dksX0_settle_0 2 rfl rfl)
theorem dX0_settle_3 : decode cX0_settle 3 = .ok (.iload_n 1, 1) := dk_27 (dk_at dksX0_settle_0 3 rfl rfl)
theorem dX0_settle_4 : decode cX0_settle 4 = .ok (.invokevirtual 46, 3) := dk_182 0 46 (dk_at dksX0_settle_0 4 rfl rfl)
theorem dX0_settle_7 : decode cX0_settle 7 = .ok (.i2l, 1) := dk_133 (dk_at dksX0_settle_0 7 rfl rfl)
theorem dX0_settle_8 : decode cX0_settle 8 = .ok (.lastore, 1) := dk_80 (dk_at dksX0_settle_0 8 rfl rfl)
theorem dX0_settle_9 : decode cX0_settle 9 = .ok (.goto 9, 3) := dk_167 0 9 (dk_at dksX0_settle_0 9 rfl rfl)
theorem dX0_settle_12 : decode cX0_settle 12 = .ok (.astore_n 3, 1) := dk_78 (dk_at dksX0_settle_0 12 rfl rfl)
theorem dX0_settle_13 : decode cX0_settle 13 = .ok (.iconst 1, 1) := dk_4 (dk_at dksX0_settle_0 13 rfl rfl)
theorem dX0_settle_14 : decode cX0_settle 14 = .ok (.ireturn, 1) := dk_172 (dk_at dksX0_settle_0 14 rfl rfl)
theorem dX0_settle_15 : decode cX0_settle 15 = .ok (.astore_n 3, 1) := dk_78 (dk_at dksX0_settle_0 15 rfl rfl)
theorem dX0_settle_16 : decode cX0_settle 16 = .ok (.iconst 2, 1) := dk_5 (dk_at dksX0_settle_0 16 rfl rfl)
theorem dX0_settle_17 : decode cX0_settle 17 = .ok (.ireturn, 1) := dk_172 (dk_at dksX0_settle_0 17 rfl rfl)
theorem dX0_settle_18 : decode cX0_settle 18 = .ok (.iconst 0, 1) := dk_3 (dk_at dksX0_settle_0 18 rfl rfl)
theorem dX0_settle_19 : decode cX0_settle 19 = .ok (.ireturn, 1) := dk_172 (dk_at dksX0_settle_0 19 rfl rfl)
abbrev cX0_spreadAfter : ByteArray := method_13_code
def yX0_spreadAfter : MethodName := ⟨RX0, "spreadAfter", "(LFlockHuts;I[J)I"⟩
def dkwX0_spreadAfter_0 : List UInt8 := [44, 3, 42, 27, 182, 0, 49, 133, 80, 167, 0, 9, 78, 4, 172, 78, 5, 172, 3, 172]
abbrev dktX0_spreadAfter_0 : List UInt8 := dkwX0_spreadAfter_0 ++ []
theorem dksX0_spreadAfter_0 : cX0_spreadAfter.data.toList.drop 0 = dktX0_spreadAfter_0 := by decide +kernel
theorem dX0_spreadAfter_0 : decode cX0_spreadAfter 0 = .ok (.aload_n 2, 1) := dk_44 (dk_at dksX0_spreadAfter_0 0 rfl rfl)
theorem dX0_spreadAfter_1 : decode cX0_spreadAfter 1 = .ok (.iconst 0, 1) := dk_3 (dk_at dksX0_spreadAfter_0 1 rfl rfl)
theorem dX0_spreadAfter_2 : decode cX0_spreadAfter 2 = .ok (.aload_n 0, 1) := dk_42 (dk_at dksX0_spreadAfter_0 2 rfl rfl)
theorem dX0_spreadAfter_3 : decode cX0_spreadAfter 3 = .ok (.iload_n 1, 1) := dk_27 (dk_at dksX0_spreadAfter_0 3 rfl rfl)
theorem dX0_spreadAfter_4 : decode cX0_spreadAfter 4 = .ok (.invokevirtual 49, 3) := dk_182 0 49 (dk_at dksX0_spreadAfter_0 4 rfl rfl)
theorem dX0_spreadAfter_7 : decode cX0_spreadAfter 7 = .ok (.i2l, 1) := dk_133 (dk_at dksX0_spreadAfter_0 7 rfl rfl)
theorem dX0_spreadAfter_8 : decode cX0_spreadAfter 8 = .ok (.lastore, 1) := dk_80 (dk_at dksX0_spreadAfter_0 8 rfl rfl)
theorem dX0_spreadAfter_9 : decode cX0_spreadAfter 9 = .ok (.goto 9, 3) := dk_167 0 9 (dk_at dksX0_spreadAfter_0 9 rfl rfl)
theorem dX0_spreadAfter_12 : decode cX0_spreadAfter 12 = .ok (.astore_n 3, 1) := dk_78 (dk_at dksX0_spreadAfter_0 12 rfl rfl)
theorem dX0_spreadAfter_13 : decode cX0_spreadAfter 13 = .ok (.iconst 1, 1) := dk_4 (dk_at dksX0_spreadAfter_0 13 rfl rfl)
theorem dX0_spreadAfter_14 : decode cX0_spreadAfter 14 = .ok (.ireturn, 1) := dk_172 (dk_at dksX0_spreadAfter_0 14 rfl rfl)
theorem dX0_spreadAfter_15 : decode cX0_spreadAfter 15 = .ok (.astore_n 3, 1) := dk_78 (dk_at dksX0_spreadAfter_0 15 rfl rfl)
theorem dX0_spreadAfter_16 : decode cX0_spreadAfter 16 = .ok (.iconst 2, 1) := dk_5 (dk_at dksX0_spreadAfter_0 16 rfl rfl)
theorem dX0_spreadAfter_17 : decode cX0_spreadAfter 17 = .ok (.ireturn, 1) := dk_172 (dk_at dksX0_spreadAfter_0 17 rfl rfl)
theorem dX0_spreadAfter_18 : decode cX0_spreadAfter 18 = .ok (.iconst 0, 1) := dk_3 (dk_at dksX0_spreadAfter_0 18 rfl rfl)
theorem dX0_spreadAfter_19 : decode cX0_spreadAfter 19 = .ok (.ireturn, 1) := dk_172 (dk_at dksX0_spreadAfter_0 19 rfl rfl)
abbrev cX0_spreadWith : ByteArray := method_14_code
def yX0_spreadWith : MethodName := ⟨RX0, "spreadWith", "(LFlockHuts;II[J)I"⟩
def dkwX0_spreadWith_0 : List UInt8 := [45, 3, 42, 27, 28, 182, 0, 54, 133, 80, 167, 0, 7, 58, 4, 4, 172, 3, 172]
abbrev dktX0_spreadWith_0 : List UInt8 := dkwX0_spreadWith_0 ++ []
theorem dksX0_spreadWith_0 : cX0_spreadWith.data.toList.drop 0 = dktX0_spreadWith_0 := by decide +kernel
theorem dX0_spreadWith_0 : decode cX0_spreadWith 0 = .ok (.aload_n 3, 1) := dk_45 (dk_at dksX0_spreadWith_0 0 rfl rfl)
theorem dX0_spreadWith_1 : decode cX0_spreadWith 1 = .ok (.iconst 0, 1) := dk_3 (dk_at dksX0_spreadWith_0 1 rfl rfl)
theorem dX0_spreadWith_2 : decode cX0_spreadWith 2 = .ok (.aload_n 0, 1) := dk_42 (dk_at dksX0_spreadWith_0 2 rfl rfl)
theorem dX0_spreadWith_3 : decode cX0_spreadWith 3 = .ok (.iload_n 1, 1) := dk_27 (dk_at dksX0_spreadWith_0 3 rfl rfl)
theorem dX0_spreadWith_4 : decode cX0_spreadWith 4 = .ok (.iload_n 2, 1) := dk_28 (dk_at dksX0_spreadWith_0 4 rfl rfl)
theorem dX0_spreadWith_5 : decode cX0_spreadWith 5 = .ok (.invokevirtual 54, 3) := dk_182 0 54 (dk_at dksX0_spreadWith_0 5 rfl rfl)
theorem dX0_spreadWith_8 : decode cX0_spreadWith 8 = .ok (.i2l, 1) := dk_133 (dk_at dksX0_spreadWith_0 8 rfl rfl)
theorem dX0_spreadWith_9 : decode cX0_spreadWith 9 = .ok (.lastore, 1) := dk_80 (dk_at dksX0_spreadWith_0 9 rfl rfl)
theorem dX0_spreadWith_10 : decode cX0_spreadWith 10 = .ok (.goto 7, 3) := dk_167 0 7 (dk_at dksX0_spreadWith_0 10 rfl rfl)
theorem dX0_spreadWith_13 : decode cX0_spreadWith 13 = .ok (.astore 4, 2) := dk_58 4 (dk_at dksX0_spreadWith_0 13 rfl rfl)
theorem dX0_spreadWith_15 : decode cX0_spreadWith 15 = .ok (.iconst 1, 1) := dk_4 (dk_at dksX0_spreadWith_0 15 rfl rfl)
theorem dX0_spreadWith_16 : decode cX0_spreadWith 16 = .ok (.ireturn, 1) := dk_172 (dk_at dksX0_spreadWith_0 16 rfl rfl)
theorem dX0_spreadWith_17 : decode cX0_spreadWith 17 = .ok (.iconst 0, 1) := dk_3 (dk_at dksX0_spreadWith_0 17 rfl rfl)
theorem dX0_spreadWith_18 : decode cX0_spreadWith 18 = .ok (.ireturn, 1) := dk_172 (dk_at dksX0_spreadWith_0 18 rfl rfl)
abbrev cX0_nearest : ByteArray := method_15_code
def yX0_nearest : MethodName := ⟨RX0, "nearest", "(LFlockHuts;II[J)I"⟩
def dkwX0_nearest_0 : List UInt8 := [45, 3, 42, 27, 28, 182, 0, 57, 133, 80, 167, 0, 11, 58, 4, 4, 172, 58, 4, 5, 172, 3, 172]
abbrev dktX0_nearest_0 : List UInt8 := dkwX0_nearest_0 ++ []
theorem dksX0_nearest_0 : cX0_nearest.data.toList.drop 0 = dktX0_nearest_0 := by decide +kernel
theorem dX0_nearest_0 : decode cX0_nearest 0 = .ok (.aload_n 3, 1) := dk_45 (dk_at dksX0_nearest_0 0 rfl rfl)
theorem dX0_nearest_1 : decode cX0_nearest 1 = .ok (.iconst 0, 1) := dk_3 (dk_at dksX0_nearest_0 1 rfl rfl)
theorem dX0_nearest_2 : decode cX0_nearest 2 = .ok (.aload_n 0, 1) := dk_42 (dk_at dksX0_nearest_0 2 rfl rfl)
theorem dX0_nearest_3 : decode cX0_nearest 3 = .ok (.iload_n 1, 1) := dk_27 (dk_at dksX0_nearest_0 3 rfl rfl)
theorem dX0_nearest_4 : decode cX0_nearest 4 = .ok (.iload_n 2, 1) := dk_28 (dk_at dksX0_nearest_0 4 rfl rfl)
theorem dX0_nearest_5 : decode cX0_nearest 5 = .ok (.invokevirtual 57, 3) := dk_182 0 57 (dk_at dksX0_nearest_0 5 rfl rfl)
theorem dX0_nearest_8 : decode cX0_nearest 8 = .ok (.i2l, 1) := dk_133 (dk_at dksX0_nearest_0 8 rfl rfl)
theorem dX0_nearest_9 : decode cX0_nearest 9 = .ok (.lastore, 1) := dk_80 (dk_at dksX0_nearest_0 9 rfl rfl)
theorem dX0_nearest_10 : decode cX0_nearest 10 = .ok (.goto 11, 3) := dk_167 0 11 (dk_at dksX0_nearest_0 10 rfl rfl)
theorem dX0_nearest_13 : decode cX0_nearest 13 = .ok (.astore 4, 2) := dk_58 4 (dk_at dksX0_nearest_0 13 rfl rfl)
theorem dX0_nearest_15 : decode cX0_nearest 15 = .ok (.iconst 1, 1) := dk_4 (dk_at dksX0_nearest_0 15 rfl rfl)
theorem dX0_nearest_16 : decode cX0_nearest 16 = .ok (.ireturn, 1) := dk_172 (dk_at dksX0_nearest_0 16 rfl rfl)
theorem dX0_nearest_17 : decode cX0_nearest 17 = .ok (.astore 4, 2) := dk_58 4 (dk_at dksX0_nearest_0 17 rfl rfl)
theorem dX0_nearest_19 : decode cX0_nearest 19 = .ok (.iconst 2, 1) := dk_5 (dk_at dksX0_nearest_0 19 rfl rfl)
theorem dX0_nearest_20 : decode cX0_nearest 20 = .ok (.ireturn, 1) := dk_172 (dk_at dksX0_nearest_0 20 rfl rfl)
theorem dX0_nearest_21 : decode cX0_nearest 21 = .ok (.iconst 0, 1) := dk_3 (dk_at dksX0_nearest_0 21 rfl rfl)
theorem dX0_nearest_22 : decode cX0_nearest 22 = .ok (.ireturn, 1) := dk_172 (dk_at dksX0_nearest_0 22 rfl rfl)
abbrev cX0_stray : ByteArray := method_16_code
def yX0_stray : MethodName := ⟨RX0, "stray", "(LFlockHuts;I[J)I"⟩
def dkwX0_stray_0 : List UInt8 := [44, 3, 42, 27, 182, 0, 60, 133, 80, 167, 0, 6, 78, 4, 172, 3, 172]
abbrev dktX0_stray_0 : List UInt8 := dkwX0_stray_0 ++ []
theorem dksX0_stray_0 : cX0_stray.data.toList.drop 0 = dktX0_stray_0 := by decide +kernel
theorem dX0_stray_0 : decode cX0_stray 0 = .ok (.aload_n 2, 1) := dk_44 (dk_at dksX0_stray_0 0 rfl rfl)
theorem dX0_stray_1 : decode cX0_stray 1 = .ok (.iconst 0, 1) := dk_3 (dk_at dksX0_stray_0 1 rfl rfl)
theorem dX0_stray_2 : decode cX0_stray 2 = .ok (.aload_n 0, 1) := dk_42 (dk_at dksX0_stray_0 2 rfl rfl)
theorem dX0_stray_3 : decode cX0_stray 3 = .ok (.iload_n 1, 1) := dk_27 (dk_at dksX0_stray_0 3 rfl rfl)
theorem dX0_stray_4 : decode cX0_stray 4 = .ok (.invokevirtual 60, 3) := dk_182 0 60 (dk_at dksX0_stray_0 4 rfl rfl)
theorem dX0_stray_7 : decode cX0_stray 7 = .ok (.i2l, 1) := dk_133 (dk_at dksX0_stray_0 7 rfl rfl)
theorem dX0_stray_8 : decode cX0_stray 8 = .ok (.lastore, 1) := dk_80 (dk_at dksX0_stray_0 8 rfl rfl)
theorem dX0_stray_9 : decode cX0_stray 9 = .ok (.goto 6, 3) := dk_167 0 6 (dk_at dksX0_stray_0 9 rfl rfl)
theorem dX0_stray_12 : decode cX0_stray 12 = .ok (.astore_n 3, 1) := dk_78 (dk_at dksX0_stray_0 12 rfl rfl)
theorem dX0_stray_13 : decode cX0_stray 13 = .ok (.iconst 1, 1) := dk_4 (dk_at dksX0_stray_0 13 rfl rfl)
theorem dX0_stray_14 : decode cX0_stray 14 = .ok (.ireturn, 1) := dk_172 (dk_at dksX0_stray_0 14 rfl rfl)
theorem dX0_stray_15 : decode cX0_stray 15 = .ok (.iconst 0, 1) := dk_3 (dk_at dksX0_stray_0 15 rfl rfl)
theorem dX0_stray_16 : decode cX0_stray 16 = .ok (.ireturn, 1) := dk_172 (dk_at dksX0_stray_0 16 rfl rfl)
abbrev cX0_dog : ByteArray := method_17_code
def yX0_dog : MethodName := ⟨RX0, "dog", "(LFlockHuts;II[J)I"⟩
def dkwX0_dog_0 : List UInt8 := [45, 3, 42, 27, 28, 182, 0, 63, 133, 80, 167, 0, 11, 58, 4, 4, 172, 58, 4, 5, 172, 3, 172]
abbrev dktX0_dog_0 : List UInt8 := dkwX0_dog_0 ++ []
theorem dksX0_dog_0 : cX0_dog.data.toList.drop 0 = dktX0_dog_0 := by decide +kernel
theorem dX0_dog_0 : decode cX0_dog 0 = .ok (.aload_n 3, 1) := dk_45 (dk_at dksX0_dog_0 0 rfl rfl)
theorem dX0_dog_1 : decode cX0_dog 1 = .ok (.iconst 0, 1) := dk_3 (dk_at dksX0_dog_0 1 rfl rfl)
theorem dX0_dog_2 : decode cX0_dog 2 = .ok (.aload_n 0, 1) := dk_42 (dk_at dksX0_dog_0 2 rfl rfl)
theorem dX0_dog_3 : decode cX0_dog 3 = .ok (.iload_n 1, 1) := dk_27 (dk_at dksX0_dog_0 3 rfl rfl)
theorem dX0_dog_4 : decode cX0_dog 4 = .ok (.iload_n 2, 1) := dk_28 (dk_at dksX0_dog_0 4 rfl rfl)
theorem dX0_dog_5 : decode cX0_dog 5 = .ok (.invokevirtual 63, 3) := dk_182 0 63 (dk_at dksX0_dog_0 5 rfl rfl)
theorem dX0_dog_8 : decode cX0_dog 8 = .ok (.i2l, 1) := dk_133 (dk_at dksX0_dog_0 8 rfl rfl)
theorem dX0_dog_9 : decode cX0_dog 9 = .ok (.lastore, 1) := dk_80 (dk_at dksX0_dog_0 9 rfl rfl)
theorem dX0_dog_10 : decode cX0_dog 10 = .ok (.goto 11, 3) := dk_167 0 11 (dk_at dksX0_dog_0 10 rfl rfl)
theorem dX0_dog_13 : decode cX0_dog 13 = .ok (.astore 4, 2) := dk_58 4 (dk_at dksX0_dog_0 13 rfl rfl)
theorem dX0_dog_15 : decode cX0_dog 15 = .ok (.iconst 1, 1) := dk_4 (dk_at dksX0_dog_0 15 rfl rfl)
theorem dX0_dog_16 : decode cX0_dog 16 = .ok (.ireturn, 1) := dk_172 (dk_at dksX0_dog_0 16 rfl rfl)
theorem dX0_dog_17 : decode cX0_dog 17 = .ok (.astore 4, 2) := dk_58 4 (dk_at dksX0_dog_0 17 rfl rfl)
theorem dX0_dog_19 : decode cX0_dog 19 = .ok (.iconst 2, 1) := dk_5 (dk_at dksX0_dog_0 19 rfl rfl)
theorem dX0_dog_20 : decode cX0_dog 20 = .ok (.ireturn, 1) := dk_172 (dk_at dksX0_dog_0 20 rfl rfl)
theorem dX0_dog_21 : decode cX0_dog 21 = .ok (.iconst 0, 1) := dk_3 (dk_at dksX0_dog_0 21 rfl rfl)
theorem dX0_dog_22 : decode cX0_dog 22 = .ok (.ireturn, 1) := dk_172 (dk_at dksX0_dog_0 22 rfl rfl)
abbrev cX0_fetch : ByteArray := method_18_code
def yX0_fetch : MethodName := ⟨RX0, "fetch", "(LFlockHuts;I[J)I"⟩
def dkwX0_fetch_0 : List UInt8 := [44, 3, 42, 27, 182, 0, 66, 133, 80, 167, 0, 9, 78, 4, 172, 78, 5, 172, 3, 172]
abbrev dktX0_fetch_0 : List UInt8 := dkwX0_fetch_0 ++ []
theorem dksX0_fetch_0 : cX0_fetch.data.toList.drop 0 = dktX0_fetch_0 := by decide +kernel
theorem dX0_fetch_0 : decode cX0_fetch 0 = .ok (.aload_n 2, 1) := dk_44 (dk_at dksX0_fetch_0 0 rfl rfl)
theorem dX0_fetch_1 : decode cX0_fetch 1 = .ok (.iconst 0, 1) := dk_3 (dk_at dksX0_fetch_0 1 rfl rfl)
theorem dX0_fetch_2 : decode cX0_fetch 2 = .ok (.aload_n 0, 1) := dk_42 (dk_at dksX0_fetch_0 2 rfl rfl)
theorem dX0_fetch_3 : decode cX0_fetch 3 = .ok (.iload_n 1, 1) := dk_27 (dk_at dksX0_fetch_0 3 rfl rfl)
theorem dX0_fetch_4 : decode cX0_fetch 4 = .ok (.invokevirtual 66, 3) := dk_182 0 66 (dk_at dksX0_fetch_0 4 rfl rfl)
theorem dX0_fetch_7 : decode cX0_fetch 7 = .ok (.i2l, 1) := dk_133 (dk_at dksX0_fetch_0 7 rfl rfl)
theorem dX0_fetch_8 : decode cX0_fetch 8 = .ok (.lastore, 1) := dk_80 (dk_at dksX0_fetch_0 8 rfl rfl)
theorem dX0_fetch_9 : decode cX0_fetch 9 = .ok (.goto 9, 3) := dk_167 0 9 (dk_at dksX0_fetch_0 9 rfl rfl)
theorem dX0_fetch_12 : decode cX0_fetch 12 = .ok (.astore_n 3, 1) := dk_78 (dk_at dksX0_fetch_0 12 rfl rfl)
theorem dX0_fetch_13 : decode cX0_fetch 13 = .ok (.iconst 1, 1) := dk_4 (dk_at dksX0_fetch_0 13 rfl rfl)
theorem dX0_fetch_14 : decode cX0_fetch 14 = .ok (.ireturn, 1) := dk_172 (dk_at dksX0_fetch_0 14 rfl rfl)
theorem dX0_fetch_15 : decode cX0_fetch 15 = .ok (.astore_n 3, 1) := dk_78 (dk_at dksX0_fetch_0 15 rfl rfl)
theorem dX0_fetch_16 : decode cX0_fetch 16 = .ok (.iconst 2, 1) := dk_5 (dk_at dksX0_fetch_0 16 rfl rfl)
theorem dX0_fetch_17 : decode cX0_fetch 17 = .ok (.ireturn, 1) := dk_172 (dk_at dksX0_fetch_0 17 rfl rfl)
theorem dX0_fetch_18 : decode cX0_fetch 18 = .ok (.iconst 0, 1) := dk_3 (dk_at dksX0_fetch_0 18 rfl rfl)
theorem dX0_fetch_19 : decode cX0_fetch 19 = .ok (.ireturn, 1) := dk_172 (dk_at dksX0_fetch_0 19 rfl rfl)
abbrev cX0_dogAt : ByteArray := method_19_code
def yX0_dogAt : MethodName := ⟨RX0, "dogAt", "(LFlockHuts;I[J)I"⟩
def dkwX0_dogAt_0 : List UInt8 := [44, 3, 42, 27, 182, 0, 69, 133, 80, 167, 0, 6, 78, 4, 172, 3, 172]
abbrev dktX0_dogAt_0 : List UInt8 := dkwX0_dogAt_0 ++ []
theorem dksX0_dogAt_0 : cX0_dogAt.data.toList.drop 0 = dktX0_dogAt_0 := by decide +kernel
theorem dX0_dogAt_0 : decode cX0_dogAt 0 = .ok (.aload_n 2, 1) := dk_44 (dk_at dksX0_dogAt_0 0 rfl rfl)
theorem dX0_dogAt_1 : decode cX0_dogAt 1 = .ok (.iconst 0, 1) := dk_3 (dk_at dksX0_dogAt_0 1 rfl rfl)
theorem dX0_dogAt_2 : decode cX0_dogAt 2 = .ok (.aload_n 0, 1) := dk_42 (dk_at dksX0_dogAt_0 2 rfl rfl)
theorem dX0_dogAt_3 : decode cX0_dogAt 3 = .ok (.iload_n 1, 1) := dk_27 (dk_at dksX0_dogAt_0 3 rfl rfl)
theorem dX0_dogAt_4 : decode cX0_dogAt 4 = .ok (.invokevirtual 69, 3) := dk_182 0 69 (dk_at dksX0_dogAt_0 4 rfl rfl)
theorem dX0_dogAt_7 : decode cX0_dogAt 7 = .ok (.i2l, 1) := dk_133 (dk_at dksX0_dogAt_0 7 rfl rfl)
theorem dX0_dogAt_8 : decode cX0_dogAt 8 = .ok (.lastore, 1) := dk_80 (dk_at dksX0_dogAt_0 8 rfl rfl)
theorem dX0_dogAt_9 : decode cX0_dogAt 9 = .ok (.goto 6, 3) := dk_167 0 6 (dk_at dksX0_dogAt_0 9 rfl rfl)
theorem dX0_dogAt_12 : decode cX0_dogAt 12 = .ok (.astore_n 3, 1) := dk_78 (dk_at dksX0_dogAt_0 12 rfl rfl)
theorem dX0_dogAt_13 : decode cX0_dogAt 13 = .ok (.iconst 1, 1) := dk_4 (dk_at dksX0_dogAt_0 13 rfl rfl)
theorem dX0_dogAt_14 : decode cX0_dogAt 14 = .ok (.ireturn, 1) := dk_172 (dk_at dksX0_dogAt_0 14 rfl rfl)
theorem dX0_dogAt_15 : decode cX0_dogAt 15 = .ok (.iconst 0, 1) := dk_3 (dk_at dksX0_dogAt_0 15 rfl rfl)
theorem dX0_dogAt_16 : decode cX0_dogAt 16 = .ok (.ireturn, 1) := dk_172 (dk_at dksX0_dogAt_0 16 rfl rfl)
abbrev cX0_apart : ByteArray := method_20_code
def yX0_apart : MethodName := ⟨RX0, "apart", "(LFlockHuts;II[J)I"⟩
def dkwX0_apart_0 : List UInt8 := [45, 3, 42, 27, 28, 182, 0, 72, 133, 80, 167, 0, 7, 58, 4, 4, 172, 3, 172]
abbrev dktX0_apart_0 : List UInt8 := dkwX0_apart_0 ++ []
theorem dksX0_apart_0 : cX0_apart.data.toList.drop 0 = dktX0_apart_0 := by decide +kernel
theorem dX0_apart_0 : decode cX0_apart 0 = .ok (.aload_n 3, 1) := dk_45 (dk_at dksX0_apart_0 0 rfl rfl)
theorem dX0_apart_1 : decode cX0_apart 1 = .ok (.iconst 0, 1) := dk_3 (dk_at dksX0_apart_0 1 rfl rfl)
theorem dX0_apart_2 : decode cX0_apart 2 = .ok (.aload_n 0, 1) := dk_42 (dk_at dksX0_apart_0 2 rfl rfl)
theorem dX0_apart_3 : decode cX0_apart 3 = .ok (.iload_n 1, 1) := dk_27 (dk_at dksX0_apart_0 3 rfl rfl)
theorem dX0_apart_4 : decode cX0_apart 4 = .ok (.iload_n 2, 1) := dk_28 (dk_at dksX0_apart_0 4 rfl rfl)
theorem dX0_apart_5 : decode cX0_apart 5 = .ok (.invokevirtual 72, 3) := dk_182 0 72 (dk_at dksX0_apart_0 5 rfl rfl)
theorem dX0_apart_8 : decode cX0_apart 8 = .ok (.i2l, 1) := dk_133 (dk_at dksX0_apart_0 8 rfl rfl)
theorem dX0_apart_9 : decode cX0_apart 9 = .ok (.lastore, 1) := dk_80 (dk_at dksX0_apart_0 9 rfl rfl)
theorem dX0_apart_10 : decode cX0_apart 10 = .ok (.goto 7, 3) := dk_167 0 7 (dk_at dksX0_apart_0 10 rfl rfl)
theorem dX0_apart_13 : decode cX0_apart 13 = .ok (.astore 4, 2) := dk_58 4 (dk_at dksX0_apart_0 13 rfl rfl)
theorem dX0_apart_15 : decode cX0_apart 15 = .ok (.iconst 1, 1) := dk_4 (dk_at dksX0_apart_0 15 rfl rfl)
theorem dX0_apart_16 : decode cX0_apart 16 = .ok (.ireturn, 1) := dk_172 (dk_at dksX0_apart_0 16 rfl rfl)
theorem dX0_apart_17 : decode cX0_apart 17 = .ok (.iconst 0, 1) := dk_3 (dk_at dksX0_apart_0 17 rfl rfl)
theorem dX0_apart_18 : decode cX0_apart 18 = .ok (.ireturn, 1) := dk_172 (dk_at dksX0_apart_0 18 rfl rfl)
abbrev cX0_ranked : ByteArray := method_21_code
def yX0_ranked : MethodName := ⟨RX0, "ranked", "(LFlockHuts;I[J)I"⟩
def dkwX0_ranked_0 : List UInt8 := [44, 3, 42, 27, 182, 0, 75, 133, 80, 167, 0, 6, 78, 4, 172, 3, 172]
abbrev dktX0_ranked_0 : List UInt8 := dkwX0_ranked_0 ++ []
theorem dksX0_ranked_0 : cX0_ranked.data.toList.drop 0 = dktX0_ranked_0 := by decide +kernel
theorem dX0_ranked_0 : decode cX0_ranked 0 = .ok (.aload_n 2, 1) := dk_44 (dk_at dksX0_ranked_0 0 rfl rfl)
theorem dX0_ranked_1 : decode cX0_ranked 1 = .ok (.iconst 0, 1) := dk_3 (dk_at dksX0_ranked_0 1 rfl rfl)
theorem dX0_ranked_2 : decode cX0_ranked 2 = .ok (.aload_n 0, 1) := dk_42 (dk_at dksX0_ranked_0 2 rfl rfl)
theorem dX0_ranked_3 : decode cX0_ranked 3 = .ok (.iload_n 1, 1) := dk_27 (dk_at dksX0_ranked_0 3 rfl rfl)
theorem dX0_ranked_4 : decode cX0_ranked 4 = .ok (.invokevirtual 75, 3) := dk_182 0 75 (dk_at dksX0_ranked_0 4 rfl rfl)
theorem dX0_ranked_7 : decode cX0_ranked 7 = .ok (.i2l, 1) := dk_133 (dk_at dksX0_ranked_0 7 rfl rfl)
theorem dX0_ranked_8 : decode cX0_ranked 8 = .ok (.lastore, 1) := dk_80 (dk_at dksX0_ranked_0 8 rfl rfl)
theorem dX0_ranked_9 : decode cX0_ranked 9 = .ok (.goto 6, 3) := dk_167 0 6 (dk_at dksX0_ranked_0 9 rfl rfl)
theorem dX0_ranked_12 : decode cX0_ranked 12 = .ok (.astore_n 3, 1) := dk_78 (dk_at dksX0_ranked_0 12 rfl rfl)
theorem dX0_ranked_13 : decode cX0_ranked 13 = .ok (.iconst 1, 1) := dk_4 (dk_at dksX0_ranked_0 13 rfl rfl)
theorem dX0_ranked_14 : decode cX0_ranked 14 = .ok (.ireturn, 1) := dk_172 (dk_at dksX0_ranked_0 14 rfl rfl)
theorem dX0_ranked_15 : decode cX0_ranked 15 = .ok (.iconst 0, 1) := dk_3 (dk_at dksX0_ranked_0 15 rfl rfl)
theorem dX0_ranked_16 : decode cX0_ranked 16 = .ok (.ireturn, 1) := dk_172 (dk_at dksX0_ranked_0 16 rfl rfl)
abbrev cX0_hutLine : ByteArray := method_22_code
def yX0_hutLine : MethodName := ⟨RX0, "hutLine", "(LFlockHuts;I[J)I"⟩
def dkwX0_hutLine_0 : List UInt8 := [44, 3, 42, 27, 182, 0, 78, 133, 80, 167, 0, 6, 78, 4, 172, 3, 172]
abbrev dktX0_hutLine_0 : List UInt8 := dkwX0_hutLine_0 ++ []
theorem dksX0_hutLine_0 : cX0_hutLine.data.toList.drop 0 = dktX0_hutLine_0 := by decide +kernel
theorem dX0_hutLine_0 : decode cX0_hutLine 0 = .ok (.aload_n 2, 1) := dk_44 (dk_at dksX0_hutLine_0 0 rfl rfl)
theorem dX0_hutLine_1 : decode cX0_hutLine 1 = .ok (.iconst 0, 1) := dk_3 (dk_at dksX0_hutLine_0 1 rfl rfl)
theorem dX0_hutLine_2 : decode cX0_hutLine 2 = .ok (.aload_n 0, 1) := dk_42 (dk_at dksX0_hutLine_0 2 rfl rfl)
theorem dX0_hutLine_3 : decode cX0_hutLine 3 = .ok (.iload_n 1, 1) := dk_27 (dk_at dksX0_hutLine_0 3 rfl rfl)
theorem dX0_hutLine_4 : decode cX0_hutLine 4 = .ok (.invokevirtual 78, 3) := dk_182 0 78 (dk_at dksX0_hutLine_0 4 rfl rfl)
theorem dX0_hutLine_7 : decode cX0_hutLine 7 = .ok (.i2l, 1) := dk_133 (dk_at dksX0_hutLine_0 7 rfl rfl)
theorem dX0_hutLine_8 : decode cX0_hutLine 8 = .ok (.lastore, 1) := dk_80 (dk_at dksX0_hutLine_0 8 rfl rfl)
theorem dX0_hutLine_9 : decode cX0_hutLine 9 = .ok (.goto 6, 3) := dk_167 0 6 (dk_at dksX0_hutLine_0 9 rfl rfl)
theorem dX0_hutLine_12 : decode cX0_hutLine 12 = .ok (.astore_n 3, 1) := dk_78 (dk_at dksX0_hutLine_0 12 rfl rfl)
theorem dX0_hutLine_13 : decode cX0_hutLine 13 = .ok (.iconst 1, 1) := dk_4 (dk_at dksX0_hutLine_0 13 rfl rfl)
theorem dX0_hutLine_14 : decode cX0_hutLine 14 = .ok (.ireturn, 1) := dk_172 (dk_at dksX0_hutLine_0 14 rfl rfl)
theorem dX0_hutLine_15 : decode cX0_hutLine 15 = .ok (.iconst 0, 1) := dk_3 (dk_at dksX0_hutLine_0 15 rfl rfl)
theorem dX0_hutLine_16 : decode cX0_hutLine 16 = .ok (.ireturn, 1) := dk_172 (dk_at dksX0_hutLine_0 16 rfl rfl)
abbrev cX0_character : ByteArray := method_23_code
def yX0_character : MethodName := ⟨RX0, "character", "(LFlockHuts;I[J)I"⟩
def dkwX0_character_0 : List UInt8 := [44, 3, 42, 27, 182, 0, 81, 133, 80, 167, 0, 6, 78, 4, 172, 3, 172]
abbrev dktX0_character_0 : List UInt8 := dkwX0_character_0 ++ []
theorem dksX0_character_0 : cX0_character.data.toList.drop 0 = dktX0_character_0 := by decide +kernel
theorem dX0_character_0 : decode cX0_character 0 = .ok (.aload_n 2, 1) := dk_44 (dk_at dksX0_character_0 0 rfl rfl)
theorem dX0_character_1 : decode cX0_character 1 = .ok (.iconst 0, 1) := dk_3 (dk_at dksX0_character_0 1 rfl rfl)
theorem dX0_character_2 : decode cX0_character 2 = .ok (.aload_n 0, 1) := dk_42 (dk_at dksX0_character_0 2 rfl rfl)
theorem dX0_character_3 : decode cX0_character 3 = .ok (.iload_n 1, 1) := dk_27 (dk_at dksX0_character_0 3 rfl rfl)
theorem dX0_character_4 : decode cX0_character 4 = .ok (.invokevirtual 81, 3) := dk_182 0 81 (dk_at dksX0_character_0 4 rfl rfl)
theorem dX0_character_7 : decode cX0_character 7 = .ok (.i2l, 1) := dk_133 (dk_at dksX0_character_0 7 rfl rfl)
theorem dX0_character_8 : decode cX0_character 8 = .ok (.lastore, 1) := dk_80 (dk_at dksX0_character_0 8 rfl rfl)
theorem dX0_character_9 : decode cX0_character 9 = .ok (.goto 6, 3) := dk_167 0 6 (dk_at dksX0_character_0 9 rfl rfl)
theorem dX0_character_12 : decode cX0_character 12 = .ok (.astore_n 3, 1) := dk_78 (dk_at dksX0_character_0 12 rfl rfl)
theorem dX0_character_13 : decode cX0_character 13 = .ok (.iconst 1, 1) := dk_4 (dk_at dksX0_character_0 13 rfl rfl)
theorem dX0_character_14 : decode cX0_character 14 = .ok (.ireturn, 1) := dk_172 (dk_at dksX0_character_0 14 rfl rfl)
theorem dX0_character_15 : decode cX0_character 15 = .ok (.iconst 0, 1) := dk_3 (dk_at dksX0_character_0 15 rfl rfl)
theorem dX0_character_16 : decode cX0_character 16 = .ok (.ireturn, 1) := dk_172 (dk_at dksX0_character_0 16 rfl rfl)
abbrev cX0_refusal : ByteArray := method_24_code
def yX0_refusal : MethodName := ⟨RX0, "refusal", "(LFlockHuts;Z[J)I"⟩
def dkwX0_refusal_0 : List UInt8 := [44, 3, 42, 27, 182, 0, 85, 133, 80, 167, 0, 6, 78, 4, 172, 3, 172]
abbrev dktX0_refusal_0 : List UInt8 := dkwX0_refusal_0 ++ []
theorem dksX0_refusal_0 : cX0_refusal.data.toList.drop 0 = dktX0_refusal_0 := by decide +kernel
theorem dX0_refusal_0 : decode cX0_refusal 0 = .ok (.aload_n 2, 1) := dk_44 (dk_at dksX0_refusal_0 0 rfl rfl)
theorem dX0_refusal_1 : decode cX0_refusal 1 = .ok (.iconst 0, 1) := dk_3 (dk_at dksX0_refusal_0 1 rfl rfl)
theorem dX0_refusal_2 : decode cX0_refusal 2 = .ok (.aload_n 0, 1) := dk_42 (dk_at dksX0_refusal_0 2 rfl rfl)
theorem dX0_refusal_3 : decode cX0_refusal 3 = .ok (.iload_n 1, 1) := dk_27 (dk_at dksX0_refusal_0 3 rfl rfl)
theorem dX0_refusal_4 : decode cX0_refusal 4 = .ok (.invokevirtual 85, 3) := dk_182 0 85 (dk_at dksX0_refusal_0 4 rfl rfl)
theorem dX0_refusal_7 : decode cX0_refusal 7 = .ok (.i2l, 1) := dk_133 (dk_at dksX0_refusal_0 7 rfl rfl)
theorem dX0_refusal_8 : decode cX0_refusal 8 = .ok (.lastore, 1) := dk_80 (dk_at dksX0_refusal_0 8 rfl rfl)
theorem dX0_refusal_9 : decode cX0_refusal 9 = .ok (.goto 6, 3) := dk_167 0 6 (dk_at dksX0_refusal_0 9 rfl rfl)
theorem dX0_refusal_12 : decode cX0_refusal 12 = .ok (.astore_n 3, 1) := dk_78 (dk_at dksX0_refusal_0 12 rfl rfl)
theorem dX0_refusal_13 : decode cX0_refusal 13 = .ok (.iconst 1, 1) := dk_4 (dk_at dksX0_refusal_0 13 rfl rfl)
theorem dX0_refusal_14 : decode cX0_refusal 14 = .ok (.ireturn, 1) := dk_172 (dk_at dksX0_refusal_0 14 rfl rfl)
theorem dX0_refusal_15 : decode cX0_refusal 15 = .ok (.iconst 0, 1) := dk_3 (dk_at dksX0_refusal_0 15 rfl rfl)
theorem dX0_refusal_16 : decode cX0_refusal 16 = .ok (.ireturn, 1) := dk_172 (dk_at dksX0_refusal_0 16 rfl rfl)
abbrev cX0_account : ByteArray := method_25_code
def yX0_account : MethodName := ⟨RX0, "account", "(LFlockHuts;I[J)I"⟩
def dkwX0_account_0 : List UInt8 := [44, 3, 42, 27, 182, 0, 91, 133, 80, 167, 0, 6, 78, 4, 172, 3, 172]
abbrev dktX0_account_0 : List UInt8 := dkwX0_account_0 ++ []
theorem dksX0_account_0 : cX0_account.data.toList.drop 0 = dktX0_account_0 := by decide +kernel
theorem dX0_account_0 : decode cX0_account 0 = .ok (.aload_n 2, 1) := dk_44 (dk_at dksX0_account_0 0 rfl rfl)
theorem dX0_account_1 : decode cX0_account 1 = .ok (.iconst 0, 1) := dk_3 (dk_at dksX0_account_0 1 rfl rfl)
theorem dX0_account_2 : decode cX0_account 2 = .ok (.aload_n 0, 1) := dk_42 (dk_at dksX0_account_0 2 rfl rfl)
theorem dX0_account_3 : decode cX0_account 3 = .ok (.iload_n 1, 1) := dk_27 (dk_at dksX0_account_0 3 rfl rfl)
theorem dX0_account_4 : decode cX0_account 4 = .ok (.invokevirtual 91, 3) := dk_182 0 91 (dk_at dksX0_account_0 4 rfl rfl)
theorem dX0_account_7 : decode cX0_account 7 = .ok (.i2l, 1) := dk_133 (dk_at dksX0_account_0 7 rfl rfl)
theorem dX0_account_8 : decode cX0_account 8 = .ok (.lastore, 1) := dk_80 (dk_at dksX0_account_0 8 rfl rfl)
theorem dX0_account_9 : decode cX0_account 9 = .ok (.goto 6, 3) := dk_167 0 6 (dk_at dksX0_account_0 9 rfl rfl)
theorem dX0_account_12 : decode cX0_account 12 = .ok (.astore_n 3, 1) := dk_78 (dk_at dksX0_account_0 12 rfl rfl)
theorem dX0_account_13 : decode cX0_account 13 = .ok (.iconst 1, 1) := dk_4 (dk_at dksX0_account_0 13 rfl rfl)
theorem dX0_account_14 : decode cX0_account 14 = .ok (.ireturn, 1) := dk_172 (dk_at dksX0_account_0 14 rfl rfl)
theorem dX0_account_15 : decode cX0_account 15 = .ok (.iconst 0, 1) := dk_3 (dk_at dksX0_account_0 15 rfl rfl)
theorem dX0_account_16 : decode cX0_account 16 = .ok (.ireturn, 1) := dk_172 (dk_at dksX0_account_0 16 rfl rfl)
abbrev cX0_meanDistance : ByteArray := method_26_code
def yX0_meanDistance : MethodName := ⟨RX0, "meanDistance", "(LFlockHuts;[D)I"⟩
def dkwX0_meanDistance_0 : List UInt8 := [43, 3, 42, 182, 0, 94, 82, 167, 0, 6, 77, 4, 172, 3, 172]
abbrev dktX0_meanDistance_0 : List UInt8 := dkwX0_meanDistance_0 ++ []
theorem dksX0_meanDistance_0 : cX0_meanDistance.data.toList.drop 0 = dktX0_meanDistance_0 := by decide +kernel
theorem dX0_meanDistance_0 : decode cX0_meanDistance 0 = .ok (.aload_n 1, 1) := dk_43 (dk_at dksX0_meanDistance_0 0 rfl rfl)
theorem dX0_meanDistance_1 : decode cX0_meanDistance 1 = .ok (.iconst 0, 1) := dk_3 (dk_at dksX0_meanDistance_0 1 rfl rfl)
theorem dX0_meanDistance_2 : decode cX0_meanDistance 2 = .ok (.aload_n 0, 1) := dk_42 (dk_at dksX0_meanDistance_0 2 rfl rfl)
theorem dX0_meanDistance_3 : decode cX0_meanDistance 3 = .ok (.invokevirtual 94, 3) := dk_182 0 94 (dk_at dksX0_meanDistance_0 3 rfl rfl)
theorem dX0_meanDistance_6 : decode cX0_meanDistance 6 = .ok (.dastore, 1) := dk_82 (dk_at dksX0_meanDistance_0 6 rfl rfl)
theorem dX0_meanDistance_7 : decode cX0_meanDistance 7 = .ok (.goto 6, 3) := dk_167 0 6 (dk_at dksX0_meanDistance_0 7 rfl rfl)
theorem dX0_meanDistance_10 : decode cX0_meanDistance 10 = .ok (.astore_n 2, 1) := dk_77 (dk_at dksX0_meanDistance_0 10 rfl rfl)
theorem dX0_meanDistance_11 : decode cX0_meanDistance 11 = .ok (.iconst 1, 1) := dk_4 (dk_at dksX0_meanDistance_0 11 rfl rfl)
theorem dX0_meanDistance_12 : decode cX0_meanDistance 12 = .ok (.ireturn, 1) := dk_172 (dk_at dksX0_meanDistance_0 12 rfl rfl)
theorem dX0_meanDistance_13 : decode cX0_meanDistance 13 = .ok (.iconst 0, 1) := dk_3 (dk_at dksX0_meanDistance_0 13 rfl rfl)
theorem dX0_meanDistance_14 : decode cX0_meanDistance 14 = .ok (.ireturn, 1) := dk_172 (dk_at dksX0_meanDistance_0 14 rfl rfl)
abbrev cX0_strayShare : ByteArray := method_27_code
def yX0_strayShare : MethodName := ⟨RX0, "strayShare", "(LFlockHuts;[D)I"⟩
def dkwX0_strayShare_0 : List UInt8 := [43, 3, 42, 182, 0, 100, 141, 82, 167, 0, 6, 77, 4, 172, 3, 172]
abbrev dktX0_strayShare_0 : List UInt8 := dkwX0_strayShare_0 ++ []
theorem dksX0_strayShare_0 : cX0_strayShare.data.toList.drop 0 = dktX0_strayShare_0 := by decide +kernel
theorem dX0_strayShare_0 : decode cX0_strayShare 0 = .ok (.aload_n 1, 1) := dk_43 (dk_at dksX0_strayShare_0 0 rfl rfl)
theorem dX0_strayShare_1 : decode cX0_strayShare 1 = .ok (.iconst 0, 1) := dk_3 (dk_at dksX0_strayShare_0 1 rfl rfl)
theorem dX0_strayShare_2 : decode cX0_strayShare 2 = .ok (.aload_n 0, 1) := dk_42 (dk_at dksX0_strayShare_0 2 rfl rfl)
theorem dX0_strayShare_3 : decode cX0_strayShare 3 = .ok (.invokevirtual 100, 3) := dk_182 0 100 (dk_at dksX0_strayShare_0 3 rfl rfl)
theorem dX0_strayShare_6 : decode cX0_strayShare 6 = .ok (.f2d, 1) := dk_141 (dk_at dksX0_strayShare_0 6 rfl rfl)
theorem dX0_strayShare_7 : decode cX0_strayShare 7 = .ok (.dastore, 1) := dk_82 (dk_at dksX0_strayShare_0 7 rfl rfl)
theorem dX0_strayShare_8 : decode cX0_strayShare 8 = .ok (.goto 6, 3) := dk_167 0 6 (dk_at dksX0_strayShare_0 8 rfl rfl)
theorem dX0_strayShare_11 : decode cX0_strayShare 11 = .ok (.astore_n 2, 1) := dk_77 (dk_at dksX0_strayShare_0 11 rfl rfl)
theorem dX0_strayShare_12 : decode cX0_strayShare 12 = .ok (.iconst 1, 1) := dk_4 (dk_at dksX0_strayShare_0 12 rfl rfl)
theorem dX0_strayShare_13 : decode cX0_strayShare 13 = .ok (.ireturn, 1) := dk_172 (dk_at dksX0_strayShare_0 13 rfl rfl)
theorem dX0_strayShare_14 : decode cX0_strayShare 14 = .ok (.iconst 0, 1) := dk_3 (dk_at dksX0_strayShare_0 14 rfl rfl)
theorem dX0_strayShare_15 : decode cX0_strayShare 15 = .ok (.ireturn, 1) := dk_172 (dk_at dksX0_strayShare_0 15 rfl rfl)
abbrev cX0_append : ByteArray := method_28_code
def yX0_append : MethodName := ⟨RX0, "append", "(LFlockHuts;I[J)I"⟩
def dkwX0_append_0 : List UInt8 := [44, 3, 42, 27, 182, 0, 104, 133, 80, 167, 0, 9, 78, 4, 172, 78, 5, 172, 3, 172]
abbrev dktX0_append_0 : List UInt8 := dkwX0_append_0 ++ []
theorem dksX0_append_0 : cX0_append.data.toList.drop 0 = dktX0_append_0 := by decide +kernel
theorem dX0_append_0 : decode cX0_append 0 = .ok (.aload_n 2, 1) := dk_44 (dk_at dksX0_append_0 0 rfl rfl)
theorem dX0_append_1 : decode cX0_append 1 = .ok (.iconst 0, 1) := dk_3 (dk_at dksX0_append_0 1 rfl rfl)
theorem dX0_append_2 : decode cX0_append 2 = .ok (.aload_n 0, 1) := dk_42 (dk_at dksX0_append_0 2 rfl rfl)
theorem dX0_append_3 : decode cX0_append 3 = .ok (.iload_n 1, 1) := dk_27 (dk_at dksX0_append_0 3 rfl rfl)
theorem dX0_append_4 : decode cX0_append 4 = .ok (.invokevirtual 104, 3) := dk_182 0 104 (dk_at dksX0_append_0 4 rfl rfl)
theorem dX0_append_7 : decode cX0_append 7 = .ok (.i2l, 1) := dk_133 (dk_at dksX0_append_0 7 rfl rfl)
theorem dX0_append_8 : decode cX0_append 8 = .ok (.lastore, 1) := dk_80 (dk_at dksX0_append_0 8 rfl rfl)
theorem dX0_append_9 : decode cX0_append 9 = .ok (.goto 9, 3) := dk_167 0 9 (dk_at dksX0_append_0 9 rfl rfl)
theorem dX0_append_12 : decode cX0_append 12 = .ok (.astore_n 3, 1) := dk_78 (dk_at dksX0_append_0 12 rfl rfl)
theorem dX0_append_13 : decode cX0_append 13 = .ok (.iconst 1, 1) := dk_4 (dk_at dksX0_append_0 13 rfl rfl)
theorem dX0_append_14 : decode cX0_append 14 = .ok (.ireturn, 1) := dk_172 (dk_at dksX0_append_0 14 rfl rfl)
theorem dX0_append_15 : decode cX0_append 15 = .ok (.astore_n 3, 1) := dk_78 (dk_at dksX0_append_0 15 rfl rfl)
theorem dX0_append_16 : decode cX0_append 16 = .ok (.iconst 2, 1) := dk_5 (dk_at dksX0_append_0 16 rfl rfl)
theorem dX0_append_17 : decode cX0_append 17 = .ok (.ireturn, 1) := dk_172 (dk_at dksX0_append_0 17 rfl rfl)
theorem dX0_append_18 : decode cX0_append 18 = .ok (.iconst 0, 1) := dk_3 (dk_at dksX0_append_0 18 rfl rfl)
theorem dX0_append_19 : decode cX0_append 19 = .ok (.ireturn, 1) := dk_172 (dk_at dksX0_append_0 19 rfl rfl)
abbrev cX0_read : ByteArray := method_29_code
def yX0_read : MethodName := ⟨RX0, "read", "(LFlockHuts;[J)I"⟩
def dkwX0_read_0 : List UInt8 := [43, 3, 42, 182, 0, 107, 133, 80, 167, 0, 9, 77, 4, 172, 77, 5, 172, 3, 172]
abbrev dktX0_read_0 : List UInt8 := dkwX0_read_0 ++ []
theorem dksX0_read_0 : cX0_read.data.toList.drop 0 = dktX0_read_0 := by decide +kernel
theorem dX0_read_0 : decode cX0_read 0 = .ok (.aload_n 1, 1) := dk_43 (dk_at dksX0_read_0 0 rfl rfl)
theorem dX0_read_1 : decode cX0_read 1 = .ok (.iconst 0, 1) := dk_3 (dk_at dksX0_read_0 1 rfl rfl)
theorem dX0_read_2 : decode cX0_read 2 = .ok (.aload_n 0, 1) := dk_42 (dk_at dksX0_read_0 2 rfl rfl)
theorem dX0_read_3 : decode cX0_read 3 = .ok (.invokevirtual 107, 3) := dk_182 0 107 (dk_at dksX0_read_0 3 rfl rfl)
theorem dX0_read_6 : decode cX0_read 6 = .ok (.i2l, 1) := dk_133 (dk_at dksX0_read_0 6 rfl rfl)
theorem dX0_read_7 : decode cX0_read 7 = .ok (.lastore, 1) := dk_80 (dk_at dksX0_read_0 7 rfl rfl)
theorem dX0_read_8 : decode cX0_read 8 = .ok (.goto 9, 3) := dk_167 0 9 (dk_at dksX0_read_0 8 rfl rfl)
theorem dX0_read_11 : decode cX0_read 11 = .ok (.astore_n 2, 1) := dk_77 (dk_at dksX0_read_0 11 rfl rfl)
theorem dX0_read_12 : decode cX0_read 12 = .ok (.iconst 1, 1) := dk_4 (dk_at dksX0_read_0 12 rfl rfl)
theorem dX0_read_13 : decode cX0_read 13 = .ok (.ireturn, 1) := dk_172 (dk_at dksX0_read_0 13 rfl rfl)
theorem dX0_read_14 : decode cX0_read 14 = .ok (.astore_n 2, 1) := dk_77 (dk_at dksX0_read_0 14 rfl rfl)
theorem dX0_read_15 : decode cX0_read 15 = .ok (.iconst 2, 1) := dk_5 (dk_at dksX0_read_0 15 rfl rfl)
theorem dX0_read_16 : decode cX0_read 16 = .ok (.ireturn, 1) := dk_172 (dk_at dksX0_read_0 16 rfl rfl)
theorem dX0_read_17 : decode cX0_read 17 = .ok (.iconst 0, 1) := dk_3 (dk_at dksX0_read_0 17 rfl rfl)
theorem dX0_read_18 : decode cX0_read 18 = .ok (.ireturn, 1) := dk_172 (dk_at dksX0_read_0 18 rfl rfl)
abbrev cX0_errorPosition : ByteArray := method_30_code
def yX0_errorPosition : MethodName := ⟨RX0, "errorPosition", "(LFlockHuts;[J)I"⟩
def dkwX0_errorPosition_0 : List UInt8 := [43, 3, 42, 182, 0, 110, 133, 80, 167, 0, 6, 77, 4, 172, 3, 172]
abbrev dktX0_errorPosition_0 : List UInt8 := dkwX0_errorPosition_0 ++ []
theorem dksX0_errorPosition_0 : cX0_errorPosition.data.toList.drop 0 = dktX0_errorPosition_0 := by decide +kernel
theorem dX0_errorPosition_0 : decode cX0_errorPosition 0 = .ok (.aload_n 1, 1) := dk_43 (dk_at dksX0_errorPosition_0 0 rfl rfl)
theorem dX0_errorPosition_1 : decode cX0_errorPosition 1 = .ok (.iconst 0, 1) := dk_3 (dk_at dksX0_errorPosition_0 1 rfl rfl)
theorem dX0_errorPosition_2 : decode cX0_errorPosition 2 = .ok (.aload_n 0, 1) := dk_42 (dk_at dksX0_errorPosition_0 2 rfl rfl)
theorem dX0_errorPosition_3 : decode cX0_errorPosition 3 = .ok (.invokevirtual 110, 3) := dk_182 0 110 (dk_at dksX0_errorPosition_0 3 rfl rfl)
theorem dX0_errorPosition_6 : decode cX0_errorPosition 6 = .ok (.i2l, 1) := dk_133 (dk_at dksX0_errorPosition_0 6 rfl rfl)
theorem dX0_errorPosition_7 : decode cX0_errorPosition 7 = .ok (.lastore, 1) := dk_80 (dk_at dksX0_errorPosition_0 7 rfl rfl)
theorem dX0_errorPosition_8 : decode cX0_errorPosition 8 = .ok (.goto 6, 3) := dk_167 0 6 (dk_at dksX0_errorPosition_0 8 rfl rfl)
theorem dX0_errorPosition_11 : decode cX0_errorPosition 11 = .ok (.astore_n 2, 1) := dk_77 (dk_at dksX0_errorPosition_0 11 rfl rfl)
theorem dX0_errorPosition_12 : decode cX0_errorPosition 12 = .ok (.iconst 1, 1) := dk_4 (dk_at dksX0_errorPosition_0 12 rfl rfl)
theorem dX0_errorPosition_13 : decode cX0_errorPosition 13 = .ok (.ireturn, 1) := dk_172 (dk_at dksX0_errorPosition_0 13 rfl rfl)
theorem dX0_errorPosition_14 : decode cX0_errorPosition 14 = .ok (.iconst 0, 1) := dk_3 (dk_at dksX0_errorPosition_0 14 rfl rfl)
theorem dX0_errorPosition_15 : decode cX0_errorPosition 15 = .ok (.ireturn, 1) := dk_172 (dk_at dksX0_errorPosition_0 15 rfl rfl)
abbrev cX0_refusedItem : ByteArray := method_31_code
def yX0_refusedItem : MethodName := ⟨RX0, "refusedItem", "(LFlockHuts;[J)I"⟩
def dkwX0_refusedItem_0 : List UInt8 := [43, 3, 42, 182, 0, 113, 133, 80, 167, 0, 6, 77, 4, 172, 3, 172]
abbrev dktX0_refusedItem_0 : List UInt8 := dkwX0_refusedItem_0 ++ []
theorem dksX0_refusedItem_0 : cX0_refusedItem.data.toList.drop 0 = dktX0_refusedItem_0 := by decide +kernel
theorem dX0_refusedItem_0 : decode cX0_refusedItem 0 = .ok (.aload_n 1, 1) := dk_43 (dk_at dksX0_refusedItem_0 0 rfl rfl)
theorem dX0_refusedItem_1 : decode cX0_refusedItem 1 = .ok (.iconst 0, 1) := dk_3 (dk_at dksX0_refusedItem_0 1 rfl rfl)
theorem dX0_refusedItem_2 : decode cX0_refusedItem 2 = .ok (.aload_n 0, 1) := dk_42 (dk_at dksX0_refusedItem_0 2 rfl rfl)
theorem dX0_refusedItem_3 : decode cX0_refusedItem 3 = .ok (.invokevirtual 113, 3) := dk_182 0 113 (dk_at dksX0_refusedItem_0 3 rfl rfl)
theorem dX0_refusedItem_6 : decode cX0_refusedItem 6 = .ok (.i2l, 1) := dk_133 (dk_at dksX0_refusedItem_0 6 rfl rfl)
theorem dX0_refusedItem_7 : decode cX0_refusedItem 7 = .ok (.lastore, 1) := dk_80 (dk_at dksX0_refusedItem_0 7 rfl rfl)
theorem dX0_refusedItem_8 : decode cX0_refusedItem 8 = .ok (.goto 6, 3) := dk_167 0 6 (dk_at dksX0_refusedItem_0 8 rfl rfl)
theorem dX0_refusedItem_11 : decode cX0_refusedItem 11 = .ok (.astore_n 2, 1) := dk_77 (dk_at dksX0_refusedItem_0 11 rfl rfl)
theorem dX0_refusedItem_12 : decode cX0_refusedItem 12 = .ok (.iconst 1, 1) := dk_4 (dk_at dksX0_refusedItem_0 12 rfl rfl)
theorem dX0_refusedItem_13 : decode cX0_refusedItem 13 = .ok (.ireturn, 1) := dk_172 (dk_at dksX0_refusedItem_0 13 rfl rfl)
theorem dX0_refusedItem_14 : decode cX0_refusedItem 14 = .ok (.iconst 0, 1) := dk_3 (dk_at dksX0_refusedItem_0 14 rfl rfl)
theorem dX0_refusedItem_15 : decode cX0_refusedItem 15 = .ok (.ireturn, 1) := dk_172 (dk_at dksX0_refusedItem_0 15 rfl rfl)
abbrev cX0_undo : ByteArray := method_32_code
def yX0_undo : MethodName := ⟨RX0, "undo", "(LFlockHuts;[J)I"⟩
def dkwX0_undo_0 : List UInt8 := [43, 3, 42, 182, 0, 116, 133, 80, 167, 0, 6, 77, 4, 172, 3, 172]
abbrev dktX0_undo_0 : List UInt8 := dkwX0_undo_0 ++ []
theorem dksX0_undo_0 : cX0_undo.data.toList.drop 0 = dktX0_undo_0 := by decide +kernel
theorem dX0_undo_0 : decode cX0_undo 0 = .ok (.aload_n 1, 1) := dk_43 (dk_at dksX0_undo_0 0 rfl rfl)
theorem dX0_undo_1 : decode cX0_undo 1 = .ok (.iconst 0, 1) := dk_3 (dk_at dksX0_undo_0 1 rfl rfl)
theorem dX0_undo_2 : decode cX0_undo 2 = .ok (.aload_n 0, 1) := dk_42 (dk_at dksX0_undo_0 2 rfl rfl)
theorem dX0_undo_3 : decode cX0_undo 3 = .ok (.invokevirtual 116, 3) := dk_182 0 116 (dk_at dksX0_undo_0 3 rfl rfl)
theorem dX0_undo_6 : decode cX0_undo 6 = .ok (.i2l, 1) := dk_133 (dk_at dksX0_undo_0 6 rfl rfl)
theorem dX0_undo_7 : decode cX0_undo 7 = .ok (.lastore, 1) := dk_80 (dk_at dksX0_undo_0 7 rfl rfl)
theorem dX0_undo_8 : decode cX0_undo 8 = .ok (.goto 6, 3) := dk_167 0 6 (dk_at dksX0_undo_0 8 rfl rfl)
theorem dX0_undo_11 : decode cX0_undo 11 = .ok (.astore_n 2, 1) := dk_77 (dk_at dksX0_undo_0 11 rfl rfl)
theorem dX0_undo_12 : decode cX0_undo 12 = .ok (.iconst 1, 1) := dk_4 (dk_at dksX0_undo_0 12 rfl rfl)
theorem dX0_undo_13 : decode cX0_undo 13 = .ok (.ireturn, 1) := dk_172 (dk_at dksX0_undo_0 13 rfl rfl)
theorem dX0_undo_14 : decode cX0_undo 14 = .ok (.iconst 0, 1) := dk_3 (dk_at dksX0_undo_0 14 rfl rfl)
theorem dX0_undo_15 : decode cX0_undo 15 = .ok (.ireturn, 1) := dk_172 (dk_at dksX0_undo_0 15 rfl rfl)
abbrev cX0_restore : ByteArray := method_33_code
def yX0_restore : MethodName := ⟨RX0, "restore", "(LFlockHuts;[J)I"⟩
def dkwX0_restore_0 : List UInt8 := [43, 3, 42, 182, 0, 119, 133, 80, 167, 0, 6, 77, 4, 172, 3, 172]
abbrev dktX0_restore_0 : List UInt8 := dkwX0_restore_0 ++ []
theorem dksX0_restore_0 : cX0_restore.data.toList.drop 0 = dktX0_restore_0 := by decide +kernel
theorem dX0_restore_0 : decode cX0_restore 0 = .ok (.aload_n 1, 1) := dk_43 (dk_at dksX0_restore_0 0 rfl rfl)
theorem dX0_restore_1 : decode cX0_restore 1 = .ok (.iconst 0, 1) := dk_3 (dk_at dksX0_restore_0 1 rfl rfl)
theorem dX0_restore_2 : decode cX0_restore 2 = .ok (.aload_n 0, 1) := dk_42 (dk_at dksX0_restore_0 2 rfl rfl)
theorem dX0_restore_3 : decode cX0_restore 3 = .ok (.invokevirtual 119, 3) := dk_182 0 119 (dk_at dksX0_restore_0 3 rfl rfl)
theorem dX0_restore_6 : decode cX0_restore 6 = .ok (.i2l, 1) := dk_133 (dk_at dksX0_restore_0 6 rfl rfl)
theorem dX0_restore_7 : decode cX0_restore 7 = .ok (.lastore, 1) := dk_80 (dk_at dksX0_restore_0 7 rfl rfl)
theorem dX0_restore_8 : decode cX0_restore 8 = .ok (.goto 6, 3) := dk_167 0 6 (dk_at dksX0_restore_0 8 rfl rfl)
theorem dX0_restore_11 : decode cX0_restore 11 = .ok (.astore_n 2, 1) := dk_77 (dk_at dksX0_restore_0 11 rfl rfl)
theorem dX0_restore_12 : decode cX0_restore 12 = .ok (.iconst 1, 1) := dk_4 (dk_at dksX0_restore_0 12 rfl rfl)
theorem dX0_restore_13 : decode cX0_restore 13 = .ok (.ireturn, 1) := dk_172 (dk_at dksX0_restore_0 13 rfl rfl)
theorem dX0_restore_14 : decode cX0_restore 14 = .ok (.iconst 0, 1) := dk_3 (dk_at dksX0_restore_0 14 rfl rfl)
theorem dX0_restore_15 : decode cX0_restore 15 = .ok (.ireturn, 1) := dk_172 (dk_at dksX0_restore_0 15 rfl rfl)
theorem q76 : (Jvm.Cond.initialized "FlockHutsLaw") ∈ lw_all := lw_g (lw_at lw_m1 0 rfl) rfl
theorem q118 : (Jvm.Cond.classLink "FlockHutsLaw" (8 : Nat) "FlockHuts") ∈ lw_all := lw_g (lw_at lw_m1 42 rfl) rfl
theorem q120 : (Jvm.Cond.methodLink "FlockHutsLaw" (122 : Nat) ({ cls := "FlockHuts", name := "<init>", desc := "()V" } : Jvm.MethodName)) ∈ lw_all := lw_g (lw_at lw_m1 44 rfl) rfl
theorem q269 : (Jvm.Cond.methodLink "FlockHutsLaw" (126 : Nat) ({ cls := "FlockHuts", name := "clear", desc := "()I" } : Jvm.MethodName)) ∈ lw_all := lw_g (lw_at lw_m1 193 rfl) rfl
theorem q284 : (Jvm.Cond.methodLink "FlockHutsLaw" (169 : Nat) ({ cls := "FlockHuts", name := "isStill", desc := "()Z" } : Jvm.MethodName)) ∈ lw_all := lw_g (lw_at lw_m1 208 rfl) rfl
theorem q743 : (Jvm.Cond.methodLink "FlockHutsLaw" (174 : Nat) ({ cls := "FlockHuts", name := "roundsToStill", desc := "()I" } : Jvm.MethodName)) ∈ lw_all := lw_g (lw_at lw_m3 187 rfl) rfl
theorem q752 : (Jvm.Cond.methodLink "FlockHutsLaw" (178 : Nat) ({ cls := "FlockHuts", name := "spread", desc := "(Z)I" } : Jvm.MethodName)) ∈ lw_all := lw_g (lw_at lw_m3 196 rfl) rfl
theorem q770 : (Jvm.Cond.methodLink "FlockHutsLaw" (191 : Nat) ({ cls := "FlockHuts", name := "strays", desc := "()I" } : Jvm.MethodName)) ∈ lw_all := lw_g (lw_at lw_m3 214 rfl) rfl
theorem q782 : (Jvm.Cond.methodLink "FlockHutsLaw" (213 : Nat) ({ cls := "FlockHuts", name := "isRight", desc := "()Z" } : Jvm.MethodName)) ∈ lw_all := lw_g (lw_at lw_m3 226 rfl) rfl
theorem q801 : (Jvm.Cond.methodLink "FlockHutsLaw" (220 : Nat) ({ cls := "FlockHuts", name := "line", desc := "()I" } : Jvm.MethodName)) ∈ lw_all := lw_g (lw_at lw_m4 5 rfl) rfl
theorem q1035 : (Jvm.Cond.methodLink "FlockHutsLaw" (256 : Nat) ({ cls := "FlockHuts", name := "snapshot", desc := "()I" } : Jvm.MethodName)) ∈ lw_all := lw_g (lw_at lw_m4 239 rfl) rfl
theorem q1039 : (Jvm.Cond.methodLink "FlockHutsLaw" (130 : Nat) ({ cls := "FlockHutsLaw", name := "sheep", desc := "(LFlockHuts;III[J)I" } : Jvm.MethodName)) ∈ lw_all := lw_g (lw_at lw_m5 3 rfl) rfl
theorem q1040 : (Jvm.Cond.static ({ cls := "FlockHutsLaw", name := "sheep", desc := "(LFlockHuts;III[J)I" } : Jvm.MethodName)) ∈ lw_all := lw_g (lw_at lw_m5 4 rfl) rfl
theorem q1041 : (Jvm.Cond.codeWith ({ cls := "FlockHutsLaw", name := "sheep", desc := "(LFlockHuts;III[J)I" } : Jvm.MethodName) method_3_code (6 : Nat) (Option.some Jvm.ClassFile.FieldType.int) [((0 : Nat), (12 : Nat), (15 : Nat), (13 : Nat)), ((0 : Nat), (12 : Nat), (19 : Nat), (15 : Nat))]) ∈ lw_all := lw_g (lw_at lw_m5 5 rfl) rfl
theorem q1042 : (Jvm.Cond.classLink "FlockHutsLaw" (13 : Nat) "java/lang/IllegalArgumentException") ∈ lw_all := lw_g (lw_at lw_m5 6 rfl) rfl
theorem q1043 : (Jvm.Cond.classLink "FlockHutsLaw" (15 : Nat) "java/lang/UnsupportedOperationException") ∈ lw_all := lw_g (lw_at lw_m5 7 rfl) rfl
theorem q1044 : (Jvm.Cond.methodLink "FlockHutsLaw" (7 : Nat) ({ cls := "FlockHuts", name := "sheep", desc := "(III)I" } : Jvm.MethodName)) ∈ lw_all := lw_g (lw_at lw_m5 8 rfl) rfl
theorem q1406 : (Jvm.Cond.methodLink "FlockHutsLaw" (139 : Nat) ({ cls := "FlockHutsLaw", name := "hut", desc := "(LFlockHuts;II[J)I" } : Jvm.MethodName)) ∈ lw_all := lw_g (lw_at lw_m6 130 rfl) rfl
theorem q1407 : (Jvm.Cond.static ({ cls := "FlockHutsLaw", name := "hut", desc := "(LFlockHuts;II[J)I" } : Jvm.MethodName)) ∈ lw_all := lw_g (lw_at lw_m6 131 rfl) rfl
theorem q1408 : (Jvm.Cond.codeWith ({ cls := "FlockHutsLaw", name := "hut", desc := "(LFlockHuts;II[J)I" } : Jvm.MethodName) method_4_code (5 : Nat) (Option.some Jvm.ClassFile.FieldType.int) [((0 : Nat), (10 : Nat), (13 : Nat), (13 : Nat)), ((0 : Nat), (10 : Nat), (17 : Nat), (15 : Nat))]) ∈ lw_all := lw_g (lw_at lw_m6 132 rfl) rfl
theorem q1409 : (Jvm.Cond.methodLink "FlockHutsLaw" (17 : Nat) ({ cls := "FlockHuts", name := "hut", desc := "(II)I" } : Jvm.MethodName)) ∈ lw_all := lw_g (lw_at lw_m6 133 rfl) rfl
theorem q1414 : (Jvm.Cond.methodLink "FlockHutsLaw" (143 : Nat) ({ cls := "FlockHutsLaw", name := "leave", desc := "(LFlockHuts;I[J)I" } : Jvm.MethodName)) ∈ lw_all := lw_g (lw_at lw_m6 138 rfl) rfl
theorem q1415 : (Jvm.Cond.static ({ cls := "FlockHutsLaw", name := "leave", desc := "(LFlockHuts;I[J)I" } : Jvm.MethodName)) ∈ lw_all := lw_g (lw_at lw_m6 139 rfl) rfl
theorem q1416 : (Jvm.Cond.codeWith ({ cls := "FlockHutsLaw", name := "leave", desc := "(LFlockHuts;I[J)I" } : Jvm.MethodName) method_5_code (4 : Nat) (Option.some Jvm.ClassFile.FieldType.int) [((0 : Nat), (9 : Nat), (12 : Nat), (25 : Nat))]) ∈ lw_all := lw_g (lw_at lw_m6 140 rfl) rfl
theorem q1417 : (Jvm.Cond.classLink "FlockHutsLaw" (25 : Nat) "java/lang/IndexOutOfBoundsException") ∈ lw_all := lw_g (lw_at lw_m6 141 rfl) rfl
theorem q1436 : (Jvm.Cond.methodLink "FlockHutsLaw" (21 : Nat) ({ cls := "FlockHuts", name := "leave", desc := "(I)I" } : Jvm.MethodName)) ∈ lw_all := lw_g (lw_at lw_m6 160 rfl) rfl
theorem q1441 : (Jvm.Cond.methodLink "FlockHutsLaw" (147 : Nat) ({ cls := "FlockHutsLaw", name := "strike", desc := "(LFlockHuts;I[J)I" } : Jvm.MethodName)) ∈ lw_all := lw_g (lw_at lw_m6 165 rfl) rfl
theorem q1442 : (Jvm.Cond.static ({ cls := "FlockHutsLaw", name := "strike", desc := "(LFlockHuts;I[J)I" } : Jvm.MethodName)) ∈ lw_all := lw_g (lw_at lw_m6 166 rfl) rfl
theorem q1443 : (Jvm.Cond.codeWith ({ cls := "FlockHutsLaw", name := "strike", desc := "(LFlockHuts;I[J)I" } : Jvm.MethodName) method_6_code (4 : Nat) (Option.some Jvm.ClassFile.FieldType.int) [((0 : Nat), (9 : Nat), (12 : Nat), (25 : Nat))]) ∈ lw_all := lw_g (lw_at lw_m6 167 rfl) rfl
theorem q1444 : (Jvm.Cond.methodLink "FlockHutsLaw" (27 : Nat) ({ cls := "FlockHuts", name := "strike", desc := "(I)I" } : Jvm.MethodName)) ∈ lw_all := lw_g (lw_at lw_m6 168 rfl) rfl
theorem q1449 : (Jvm.Cond.methodLink "FlockHutsLaw" (150 : Nat) ({ cls := "FlockHutsLaw", name := "move", desc := "(LFlockHuts;III[J)I" } : Jvm.MethodName)) ∈ lw_all := lw_g (lw_at lw_m6 173 rfl) rfl
theorem q1450 : (Jvm.Cond.static ({ cls := "FlockHutsLaw", name := "move", desc := "(LFlockHuts;III[J)I" } : Jvm.MethodName)) ∈ lw_all := lw_g (lw_at lw_m6 174 rfl) rfl
theorem q1451 : (Jvm.Cond.codeWith ({ cls := "FlockHutsLaw", name := "move", desc := "(LFlockHuts;III[J)I" } : Jvm.MethodName) method_7_code (6 : Nat) (Option.some Jvm.ClassFile.FieldType.int) [((0 : Nat), (12 : Nat), (15 : Nat), (25 : Nat)), ((0 : Nat), (12 : Nat), (19 : Nat), (13 : Nat)), ((0 : Nat), (12 : Nat), (23 : Nat), (15 : Nat))]) ∈ lw_all := lw_g (lw_at lw_m6 175 rfl) rfl
theorem q1452 : (Jvm.Cond.methodLink "FlockHutsLaw" (30 : Nat) ({ cls := "FlockHuts", name := "move", desc := "(III)I" } : Jvm.MethodName)) ∈ lw_all := lw_g (lw_at lw_m6 176 rfl) rfl
theorem q1457 : (Jvm.Cond.methodLink "FlockHutsLaw" (153 : Nat) ({ cls := "FlockHutsLaw", name := "weigh", desc := "(LFlockHuts;II[J)I" } : Jvm.MethodName)) ∈ lw_all := lw_g (lw_at lw_m6 181 rfl) rfl
theorem q1458 : (Jvm.Cond.static ({ cls := "FlockHutsLaw", name := "weigh", desc := "(LFlockHuts;II[J)I" } : Jvm.MethodName)) ∈ lw_all := lw_g (lw_at lw_m6 182 rfl) rfl
theorem q1459 : (Jvm.Cond.codeWith ({ cls := "FlockHutsLaw", name := "weigh", desc := "(LFlockHuts;II[J)I" } : Jvm.MethodName) method_8_code (5 : Nat) (Option.some Jvm.ClassFile.FieldType.int) [((0 : Nat), (10 : Nat), (13 : Nat), (25 : Nat)), ((0 : Nat), (10 : Nat), (17 : Nat), (13 : Nat)), ((0 : Nat), (10 : Nat), (21 : Nat), (15 : Nat))]) ∈ lw_all := lw_g (lw_at lw_m6 183 rfl) rfl
theorem q1460 : (Jvm.Cond.methodLink "FlockHutsLaw" (33 : Nat) ({ cls := "FlockHuts", name := "weigh", desc := "(II)I" } : Jvm.MethodName)) ∈ lw_all := lw_g (lw_at lw_m6 184 rfl) rfl
theorem q1465 : (Jvm.Cond.methodLink "FlockHutsLaw" (156 : Nat) ({ cls := "FlockHutsLaw", name := "sheepOf", desc := "(LFlockHuts;II[J)I" } : Jvm.MethodName)) ∈ lw_all := lw_g (lw_at lw_m6 189 rfl) rfl
theorem q1466 : (Jvm.Cond.static ({ cls := "FlockHutsLaw", name := "sheepOf", desc := "(LFlockHuts;II[J)I" } : Jvm.MethodName)) ∈ lw_all := lw_g (lw_at lw_m6 190 rfl) rfl
theorem q1467 : (Jvm.Cond.codeWith ({ cls := "FlockHutsLaw", name := "sheepOf", desc := "(LFlockHuts;II[J)I" } : Jvm.MethodName) method_9_code (5 : Nat) (Option.some Jvm.ClassFile.FieldType.int) [((0 : Nat), (10 : Nat), (13 : Nat), (25 : Nat)), ((0 : Nat), (10 : Nat), (17 : Nat), (13 : Nat))]) ∈ lw_all := lw_g (lw_at lw_m6 191 rfl) rfl
theorem q1468 : (Jvm.Cond.methodLink "FlockHutsLaw" (36 : Nat) ({ cls := "FlockHuts", name := "sheepOf", desc := "(II)I" } : Jvm.MethodName)) ∈ lw_all := lw_g (lw_at lw_m6 192 rfl) rfl
theorem q1476 : (Jvm.Cond.methodLink "FlockHutsLaw" (159 : Nat) ({ cls := "FlockHutsLaw", name := "hutOf", desc := "(LFlockHuts;II[J)I" } : Jvm.MethodName)) ∈ lw_all := lw_g (lw_at lw_m6 200 rfl) rfl
theorem q1477 : (Jvm.Cond.static ({ cls := "FlockHutsLaw", name := "hutOf", desc := "(LFlockHuts;II[J)I" } : Jvm.MethodName)) ∈ lw_all := lw_g (lw_at lw_m6 201 rfl) rfl
theorem q1478 : (Jvm.Cond.codeWith ({ cls := "FlockHutsLaw", name := "hutOf", desc := "(LFlockHuts;II[J)I" } : Jvm.MethodName) method_10_code (5 : Nat) (Option.some Jvm.ClassFile.FieldType.int) [((0 : Nat), (10 : Nat), (13 : Nat), (25 : Nat)), ((0 : Nat), (10 : Nat), (17 : Nat), (13 : Nat))]) ∈ lw_all := lw_g (lw_at lw_m6 202 rfl) rfl
theorem q1479 : (Jvm.Cond.methodLink "FlockHutsLaw" (39 : Nat) ({ cls := "FlockHuts", name := "hutOf", desc := "(II)I" } : Jvm.MethodName)) ∈ lw_all := lw_g (lw_at lw_m6 203 rfl) rfl
theorem q1499 : (Jvm.Cond.methodLink "FlockHutsLaw" (162 : Nat) ({ cls := "FlockHutsLaw", name := "round", desc := "(LFlockHuts;[J)I" } : Jvm.MethodName)) ∈ lw_all := lw_g (lw_at lw_m6 223 rfl) rfl
theorem q1500 : (Jvm.Cond.static ({ cls := "FlockHutsLaw", name := "round", desc := "(LFlockHuts;[J)I" } : Jvm.MethodName)) ∈ lw_all := lw_g (lw_at lw_m6 224 rfl) rfl
theorem q1501 : (Jvm.Cond.codeWith ({ cls := "FlockHutsLaw", name := "round", desc := "(LFlockHuts;[J)I" } : Jvm.MethodName) method_11_code (3 : Nat) (Option.some Jvm.ClassFile.FieldType.int) [((0 : Nat), (8 : Nat), (11 : Nat), (15 : Nat))]) ∈ lw_all := lw_g (lw_at lw_m6 225 rfl) rfl
theorem q1502 : (Jvm.Cond.methodLink "FlockHutsLaw" (42 : Nat) ({ cls := "FlockHuts", name := "round", desc := "()I" } : Jvm.MethodName)) ∈ lw_all := lw_g (lw_at lw_m6 226 rfl) rfl
theorem q1507 : (Jvm.Cond.methodLink "FlockHutsLaw" (166 : Nat) ({ cls := "FlockHutsLaw", name := "settle", desc := "(LFlockHuts;I[J)I" } : Jvm.MethodName)) ∈ lw_all := lw_g (lw_at lw_m6 231 rfl) rfl
theorem q1508 : (Jvm.Cond.static ({ cls := "FlockHutsLaw", name := "settle", desc := "(LFlockHuts;I[J)I" } : Jvm.MethodName)) ∈ lw_all := lw_g (lw_at lw_m6 232 rfl) rfl
theorem q1509 : (Jvm.Cond.codeWith ({ cls := "FlockHutsLaw", name := "settle", desc := "(LFlockHuts;I[J)I" } : Jvm.MethodName) method_12_code (4 : Nat) (Option.some Jvm.ClassFile.FieldType.int) [((0 : Nat), (9 : Nat), (12 : Nat), (13 : Nat)), ((0 : Nat), (9 : Nat), (15 : Nat), (15 : Nat))]) ∈ lw_all := lw_g (lw_at lw_m6 233 rfl) rfl
theorem q1510 : (Jvm.Cond.methodLink "FlockHutsLaw" (46 : Nat) ({ cls := "FlockHuts", name := "settle", desc := "(I)I" } : Jvm.MethodName)) ∈ lw_all := lw_g (lw_at lw_m6 234 rfl) rfl
theorem q1515 : (Jvm.Cond.methodLink "FlockHutsLaw" (182 : Nat) ({ cls := "FlockHutsLaw", name := "spreadAfter", desc := "(LFlockHuts;I[J)I" } : Jvm.MethodName)) ∈ lw_all := lw_g (lw_at lw_m6 239 rfl) rfl
theorem q1516 : (Jvm.Cond.static ({ cls := "FlockHutsLaw", name := "spreadAfter", desc := "(LFlockHuts;I[J)I" } : Jvm.MethodName)) ∈ lw_all := lw_g (lw_at lw_m7 0 rfl) rfl
theorem q1517 : (Jvm.Cond.codeWith ({ cls := "FlockHutsLaw", name := "spreadAfter", desc := "(LFlockHuts;I[J)I" } : Jvm.MethodName) method_13_code (4 : Nat) (Option.some Jvm.ClassFile.FieldType.int) [((0 : Nat), (9 : Nat), (12 : Nat), (13 : Nat)), ((0 : Nat), (9 : Nat), (15 : Nat), (52 : Nat))]) ∈ lw_all := lw_g (lw_at lw_m7 1 rfl) rfl
theorem q1518 : (Jvm.Cond.classLink "FlockHutsLaw" (52 : Nat) "java/util/NoSuchElementException") ∈ lw_all := lw_g (lw_at lw_m7 2 rfl) rfl
theorem q1519 : (Jvm.Cond.methodLink "FlockHutsLaw" (49 : Nat) ({ cls := "FlockHuts", name := "spreadAfter", desc := "(I)I" } : Jvm.MethodName)) ∈ lw_all := lw_g (lw_at lw_m7 3 rfl) rfl
theorem q1529 : (Jvm.Cond.methodLink "FlockHutsLaw" (185 : Nat) ({ cls := "FlockHutsLaw", name := "spreadWith", desc := "(LFlockHuts;II[J)I" } : Jvm.MethodName)) ∈ lw_all := lw_g (lw_at lw_m7 13 rfl) rfl
theorem q1530 : (Jvm.Cond.static ({ cls := "FlockHutsLaw", name := "spreadWith", desc := "(LFlockHuts;II[J)I" } : Jvm.MethodName)) ∈ lw_all := lw_g (lw_at lw_m7 14 rfl) rfl
theorem q1531 : (Jvm.Cond.codeWith ({ cls := "FlockHutsLaw", name := "spreadWith", desc := "(LFlockHuts;II[J)I" } : Jvm.MethodName) method_14_code (5 : Nat) (Option.some Jvm.ClassFile.FieldType.int) [((0 : Nat), (10 : Nat), (13 : Nat), (13 : Nat))]) ∈ lw_all := lw_g (lw_at lw_m7 15 rfl) rfl
theorem q1532 : (Jvm.Cond.methodLink "FlockHutsLaw" (54 : Nat) ({ cls := "FlockHuts", name := "spreadWith", desc := "(II)I" } : Jvm.MethodName)) ∈ lw_all := lw_g (lw_at lw_m7 16 rfl) rfl
theorem q1542 : (Jvm.Cond.methodLink "FlockHutsLaw" (188 : Nat) ({ cls := "FlockHutsLaw", name := "nearest", desc := "(LFlockHuts;II[J)I" } : Jvm.MethodName)) ∈ lw_all := lw_g (lw_at lw_m7 26 rfl) rfl
theorem q1543 : (Jvm.Cond.static ({ cls := "FlockHutsLaw", name := "nearest", desc := "(LFlockHuts;II[J)I" } : Jvm.MethodName)) ∈ lw_all := lw_g (lw_at lw_m7 27 rfl) rfl
theorem q1544 : (Jvm.Cond.codeWith ({ cls := "FlockHutsLaw", name := "nearest", desc := "(LFlockHuts;II[J)I" } : Jvm.MethodName) method_15_code (5 : Nat) (Option.some Jvm.ClassFile.FieldType.int) [((0 : Nat), (10 : Nat), (13 : Nat), (13 : Nat)), ((0 : Nat), (10 : Nat), (17 : Nat), (52 : Nat))]) ∈ lw_all := lw_g (lw_at lw_m7 28 rfl) rfl
theorem q1545 : (Jvm.Cond.methodLink "FlockHutsLaw" (57 : Nat) ({ cls := "FlockHuts", name := "nearest", desc := "(II)I" } : Jvm.MethodName)) ∈ lw_all := lw_g (lw_at lw_m7 29 rfl) rfl
theorem q1550 : (Jvm.Cond.methodLink "FlockHutsLaw" (195 : Nat) ({ cls := "FlockHutsLaw", name := "stray", desc := "(LFlockHuts;I[J)I" } : Jvm.MethodName)) ∈ lw_all := lw_g (lw_at lw_m7 34 rfl) rfl
theorem q1551 : (Jvm.Cond.static ({ cls := "FlockHutsLaw", name := "stray", desc := "(LFlockHuts;I[J)I" } : Jvm.MethodName)) ∈ lw_all := lw_g (lw_at lw_m7 35 rfl) rfl
theorem q1552 : (Jvm.Cond.codeWith ({ cls := "FlockHutsLaw", name := "stray", desc := "(LFlockHuts;I[J)I" } : Jvm.MethodName) method_16_code (4 : Nat) (Option.some Jvm.ClassFile.FieldType.int) [((0 : Nat), (9 : Nat), (12 : Nat), (52 : Nat))]) ∈ lw_all := lw_g (lw_at lw_m7 36 rfl) rfl
theorem q1553 : (Jvm.Cond.methodLink "FlockHutsLaw" (60 : Nat) ({ cls := "FlockHuts", name := "stray", desc := "(I)I" } : Jvm.MethodName)) ∈ lw_all := lw_g (lw_at lw_m7 37 rfl) rfl
theorem q1557 : (Jvm.Cond.methodLink "FlockHutsLaw" (198 : Nat) ({ cls := "FlockHutsLaw", name := "dog", desc := "(LFlockHuts;II[J)I" } : Jvm.MethodName)) ∈ lw_all := lw_g (lw_at lw_m7 41 rfl) rfl
theorem q1558 : (Jvm.Cond.static ({ cls := "FlockHutsLaw", name := "dog", desc := "(LFlockHuts;II[J)I" } : Jvm.MethodName)) ∈ lw_all := lw_g (lw_at lw_m7 42 rfl) rfl
theorem q1559 : (Jvm.Cond.codeWith ({ cls := "FlockHutsLaw", name := "dog", desc := "(LFlockHuts;II[J)I" } : Jvm.MethodName) method_17_code (5 : Nat) (Option.some Jvm.ClassFile.FieldType.int) [((0 : Nat), (10 : Nat), (13 : Nat), (25 : Nat)), ((0 : Nat), (10 : Nat), (17 : Nat), (15 : Nat))]) ∈ lw_all := lw_g (lw_at lw_m7 43 rfl) rfl
theorem q1560 : (Jvm.Cond.methodLink "FlockHutsLaw" (63 : Nat) ({ cls := "FlockHuts", name := "dog", desc := "(II)I" } : Jvm.MethodName)) ∈ lw_all := lw_g (lw_at lw_m7 44 rfl) rfl
theorem q1565 : (Jvm.Cond.methodLink "FlockHutsLaw" (201 : Nat) ({ cls := "FlockHutsLaw", name := "fetch", desc := "(LFlockHuts;I[J)I" } : Jvm.MethodName)) ∈ lw_all := lw_g (lw_at lw_m7 49 rfl) rfl
theorem q1566 : (Jvm.Cond.static ({ cls := "FlockHutsLaw", name := "fetch", desc := "(LFlockHuts;I[J)I" } : Jvm.MethodName)) ∈ lw_all := lw_g (lw_at lw_m7 50 rfl) rfl
theorem q1567 : (Jvm.Cond.codeWith ({ cls := "FlockHutsLaw", name := "fetch", desc := "(LFlockHuts;I[J)I" } : Jvm.MethodName) method_18_code (4 : Nat) (Option.some Jvm.ClassFile.FieldType.int) [((0 : Nat), (9 : Nat), (12 : Nat), (25 : Nat)), ((0 : Nat), (9 : Nat), (15 : Nat), (15 : Nat))]) ∈ lw_all := lw_g (lw_at lw_m7 51 rfl) rfl
theorem q1568 : (Jvm.Cond.methodLink "FlockHutsLaw" (66 : Nat) ({ cls := "FlockHuts", name := "fetch", desc := "(I)I" } : Jvm.MethodName)) ∈ lw_all := lw_g (lw_at lw_m7 52 rfl) rfl
theorem q1573 : (Jvm.Cond.methodLink "FlockHutsLaw" (204 : Nat) ({ cls := "FlockHutsLaw", name := "dogAt", desc := "(LFlockHuts;I[J)I" } : Jvm.MethodName)) ∈ lw_all := lw_g (lw_at lw_m7 57 rfl) rfl
theorem q1574 : (Jvm.Cond.static ({ cls := "FlockHutsLaw", name := "dogAt", desc := "(LFlockHuts;I[J)I" } : Jvm.MethodName)) ∈ lw_all := lw_g (lw_at lw_m7 58 rfl) rfl
theorem q1575 : (Jvm.Cond.codeWith ({ cls := "FlockHutsLaw", name := "dogAt", desc := "(LFlockHuts;I[J)I" } : Jvm.MethodName) method_19_code (4 : Nat) (Option.some Jvm.ClassFile.FieldType.int) [((0 : Nat), (9 : Nat), (12 : Nat), (25 : Nat))]) ∈ lw_all := lw_g (lw_at lw_m7 59 rfl) rfl
theorem q1576 : (Jvm.Cond.methodLink "FlockHutsLaw" (69 : Nat) ({ cls := "FlockHuts", name := "dogAt", desc := "(I)I" } : Jvm.MethodName)) ∈ lw_all := lw_g (lw_at lw_m7 60 rfl) rfl
theorem q1581 : (Jvm.Cond.methodLink "FlockHutsLaw" (207 : Nat) ({ cls := "FlockHutsLaw", name := "apart", desc := "(LFlockHuts;II[J)I" } : Jvm.MethodName)) ∈ lw_all := lw_g (lw_at lw_m7 65 rfl) rfl
theorem q1582 : (Jvm.Cond.static ({ cls := "FlockHutsLaw", name := "apart", desc := "(LFlockHuts;II[J)I" } : Jvm.MethodName)) ∈ lw_all := lw_g (lw_at lw_m7 66 rfl) rfl
theorem q1583 : (Jvm.Cond.codeWith ({ cls := "FlockHutsLaw", name := "apart", desc := "(LFlockHuts;II[J)I" } : Jvm.MethodName) method_20_code (5 : Nat) (Option.some Jvm.ClassFile.FieldType.int) [((0 : Nat), (10 : Nat), (13 : Nat), (25 : Nat))]) ∈ lw_all := lw_g (lw_at lw_m7 67 rfl) rfl
theorem q1584 : (Jvm.Cond.methodLink "FlockHutsLaw" (72 : Nat) ({ cls := "FlockHuts", name := "apart", desc := "(II)I" } : Jvm.MethodName)) ∈ lw_all := lw_g (lw_at lw_m7 68 rfl) rfl
theorem q1593 : (Jvm.Cond.methodLink "FlockHutsLaw" (210 : Nat) ({ cls := "FlockHutsLaw", name := "ranked", desc := "(LFlockHuts;I[J)I" } : Jvm.MethodName)) ∈ lw_all := lw_g (lw_at lw_m7 77 rfl) rfl
theorem q1594 : (Jvm.Cond.static ({ cls := "FlockHutsLaw", name := "ranked", desc := "(LFlockHuts;I[J)I" } : Jvm.MethodName)) ∈ lw_all := lw_g (lw_at lw_m7 78 rfl) rfl
theorem q1595 : (Jvm.Cond.codeWith ({ cls := "FlockHutsLaw", name := "ranked", desc := "(LFlockHuts;I[J)I" } : Jvm.MethodName) method_21_code (4 : Nat) (Option.some Jvm.ClassFile.FieldType.int) [((0 : Nat), (9 : Nat), (12 : Nat), (52 : Nat))]) ∈ lw_all := lw_g (lw_at lw_m7 79 rfl) rfl
theorem q1596 : (Jvm.Cond.methodLink "FlockHutsLaw" (75 : Nat) ({ cls := "FlockHuts", name := "ranked", desc := "(I)I" } : Jvm.MethodName)) ∈ lw_all := lw_g (lw_at lw_m7 80 rfl) rfl
theorem q1609 : (Jvm.Cond.methodLink "FlockHutsLaw" (217 : Nat) ({ cls := "FlockHutsLaw", name := "hutLine", desc := "(LFlockHuts;I[J)I" } : Jvm.MethodName)) ∈ lw_all := lw_g (lw_at lw_m7 93 rfl) rfl
theorem q1610 : (Jvm.Cond.static ({ cls := "FlockHutsLaw", name := "hutLine", desc := "(LFlockHuts;I[J)I" } : Jvm.MethodName)) ∈ lw_all := lw_g (lw_at lw_m7 94 rfl) rfl
theorem q1611 : (Jvm.Cond.codeWith ({ cls := "FlockHutsLaw", name := "hutLine", desc := "(LFlockHuts;I[J)I" } : Jvm.MethodName) method_22_code (4 : Nat) (Option.some Jvm.ClassFile.FieldType.int) [((0 : Nat), (9 : Nat), (12 : Nat), (25 : Nat))]) ∈ lw_all := lw_g (lw_at lw_m7 95 rfl) rfl
theorem q1612 : (Jvm.Cond.methodLink "FlockHutsLaw" (78 : Nat) ({ cls := "FlockHuts", name := "hutLine", desc := "(I)I" } : Jvm.MethodName)) ∈ lw_all := lw_g (lw_at lw_m7 96 rfl) rfl
theorem q1641 : (Jvm.Cond.methodLink "FlockHutsLaw" (224 : Nat) ({ cls := "FlockHutsLaw", name := "character", desc := "(LFlockHuts;I[J)I" } : Jvm.MethodName)) ∈ lw_all := lw_g (lw_at lw_m7 125 rfl) rfl
theorem q1642 : (Jvm.Cond.static ({ cls := "FlockHutsLaw", name := "character", desc := "(LFlockHuts;I[J)I" } : Jvm.MethodName)) ∈ lw_all := lw_g (lw_at lw_m7 126 rfl) rfl
theorem q1643 : (Jvm.Cond.codeWith ({ cls := "FlockHutsLaw", name := "character", desc := "(LFlockHuts;I[J)I" } : Jvm.MethodName) method_23_code (4 : Nat) (Option.some Jvm.ClassFile.FieldType.int) [((0 : Nat), (9 : Nat), (12 : Nat), (25 : Nat))]) ∈ lw_all := lw_g (lw_at lw_m7 127 rfl) rfl
theorem q1644 : (Jvm.Cond.methodLink "FlockHutsLaw" (81 : Nat) ({ cls := "FlockHuts", name := "character", desc := "(I)C" } : Jvm.MethodName)) ∈ lw_all := lw_g (lw_at lw_m7 128 rfl) rfl
theorem q1660 : (Jvm.Cond.methodLink "FlockHutsLaw" (227 : Nat) ({ cls := "FlockHutsLaw", name := "refusal", desc := "(LFlockHuts;Z[J)I" } : Jvm.MethodName)) ∈ lw_all := lw_g (lw_at lw_m7 144 rfl) rfl
theorem q1661 : (Jvm.Cond.static ({ cls := "FlockHutsLaw", name := "refusal", desc := "(LFlockHuts;Z[J)I" } : Jvm.MethodName)) ∈ lw_all := lw_g (lw_at lw_m7 145 rfl) rfl
theorem q1662 : (Jvm.Cond.codeWith ({ cls := "FlockHutsLaw", name := "refusal", desc := "(LFlockHuts;Z[J)I" } : Jvm.MethodName) method_24_code (4 : Nat) (Option.some Jvm.ClassFile.FieldType.int) [((0 : Nat), (9 : Nat), (12 : Nat), (89 : Nat))]) ∈ lw_all := lw_g (lw_at lw_m7 146 rfl) rfl
theorem q1663 : (Jvm.Cond.classLink "FlockHutsLaw" (89 : Nat) "java/lang/IllegalStateException") ∈ lw_all := lw_g (lw_at lw_m7 147 rfl) rfl
theorem q1664 : (Jvm.Cond.methodLink "FlockHutsLaw" (85 : Nat) ({ cls := "FlockHuts", name := "refusal", desc := "(Z)I" } : Jvm.MethodName)) ∈ lw_all := lw_g (lw_at lw_m7 148 rfl) rfl
theorem q1676 : (Jvm.Cond.methodLink "FlockHutsLaw" (231 : Nat) ({ cls := "FlockHutsLaw", name := "account", desc := "(LFlockHuts;I[J)I" } : Jvm.MethodName)) ∈ lw_all := lw_g (lw_at lw_m7 160 rfl) rfl
theorem q1677 : (Jvm.Cond.static ({ cls := "FlockHutsLaw", name := "account", desc := "(LFlockHuts;I[J)I" } : Jvm.MethodName)) ∈ lw_all := lw_g (lw_at lw_m7 161 rfl) rfl
theorem q1678 : (Jvm.Cond.codeWith ({ cls := "FlockHutsLaw", name := "account", desc := "(LFlockHuts;I[J)I" } : Jvm.MethodName) method_25_code (4 : Nat) (Option.some Jvm.ClassFile.FieldType.int) [((0 : Nat), (9 : Nat), (12 : Nat), (13 : Nat))]) ∈ lw_all := lw_g (lw_at lw_m7 162 rfl) rfl
theorem q1679 : (Jvm.Cond.methodLink "FlockHutsLaw" (91 : Nat) ({ cls := "FlockHuts", name := "account", desc := "(I)I" } : Jvm.MethodName)) ∈ lw_all := lw_g (lw_at lw_m7 163 rfl) rfl
theorem q1699 : (Jvm.Cond.methodLink "FlockHutsLaw" (234 : Nat) ({ cls := "FlockHutsLaw", name := "meanDistance", desc := "(LFlockHuts;[D)I" } : Jvm.MethodName)) ∈ lw_all := lw_g (lw_at lw_m7 183 rfl) rfl
theorem q1700 : (Jvm.Cond.static ({ cls := "FlockHutsLaw", name := "meanDistance", desc := "(LFlockHuts;[D)I" } : Jvm.MethodName)) ∈ lw_all := lw_g (lw_at lw_m7 184 rfl) rfl
theorem q1701 : (Jvm.Cond.codeWith ({ cls := "FlockHutsLaw", name := "meanDistance", desc := "(LFlockHuts;[D)I" } : Jvm.MethodName) method_26_code (3 : Nat) (Option.some Jvm.ClassFile.FieldType.int) [((0 : Nat), (7 : Nat), (10 : Nat), (98 : Nat))]) ∈ lw_all := lw_g (lw_at lw_m7 185 rfl) rfl
theorem q1702 : (Jvm.Cond.classLink "FlockHutsLaw" (98 : Nat) "java/lang/ArithmeticException") ∈ lw_all := lw_g (lw_at lw_m7 186 rfl) rfl
theorem q1716 : (Jvm.Cond.methodLink "FlockHutsLaw" (94 : Nat) ({ cls := "FlockHuts", name := "meanDistance", desc := "()D" } : Jvm.MethodName)) ∈ lw_all := lw_g (lw_at lw_m7 200 rfl) rfl
theorem q1732 : (Jvm.Cond.methodLink "FlockHutsLaw" (238 : Nat) ({ cls := "FlockHutsLaw", name := "strayShare", desc := "(LFlockHuts;[D)I" } : Jvm.MethodName)) ∈ lw_all := lw_g (lw_at lw_m7 216 rfl) rfl
theorem q1733 : (Jvm.Cond.static ({ cls := "FlockHutsLaw", name := "strayShare", desc := "(LFlockHuts;[D)I" } : Jvm.MethodName)) ∈ lw_all := lw_g (lw_at lw_m7 217 rfl) rfl
theorem q1734 : (Jvm.Cond.codeWith ({ cls := "FlockHutsLaw", name := "strayShare", desc := "(LFlockHuts;[D)I" } : Jvm.MethodName) method_27_code (3 : Nat) (Option.some Jvm.ClassFile.FieldType.int) [((0 : Nat), (8 : Nat), (11 : Nat), (98 : Nat))]) ∈ lw_all := lw_g (lw_at lw_m7 218 rfl) rfl
theorem q1735 : (Jvm.Cond.methodLink "FlockHutsLaw" (100 : Nat) ({ cls := "FlockHuts", name := "strayShare", desc := "()F" } : Jvm.MethodName)) ∈ lw_all := lw_g (lw_at lw_m7 219 rfl) rfl
theorem q1740 : (Jvm.Cond.methodLink "FlockHutsLaw" (241 : Nat) ({ cls := "FlockHutsLaw", name := "append", desc := "(LFlockHuts;I[J)I" } : Jvm.MethodName)) ∈ lw_all := lw_g (lw_at lw_m7 224 rfl) rfl
theorem q1741 : (Jvm.Cond.static ({ cls := "FlockHutsLaw", name := "append", desc := "(LFlockHuts;I[J)I" } : Jvm.MethodName)) ∈ lw_all := lw_g (lw_at lw_m7 225 rfl) rfl
theorem q1742 : (Jvm.Cond.codeWith ({ cls := "FlockHutsLaw", name := "append", desc := "(LFlockHuts;I[J)I" } : Jvm.MethodName) method_28_code (4 : Nat) (Option.some Jvm.ClassFile.FieldType.int) [((0 : Nat), (9 : Nat), (12 : Nat), (13 : Nat)), ((0 : Nat), (9 : Nat), (15 : Nat), (89 : Nat))]) ∈ lw_all := lw_g (lw_at lw_m7 226 rfl) rfl
theorem q1743 : (Jvm.Cond.methodLink "FlockHutsLaw" (104 : Nat) ({ cls := "FlockHuts", name := "append", desc := "(I)I" } : Jvm.MethodName)) ∈ lw_all := lw_g (lw_at lw_m7 227 rfl) rfl
theorem q1750 : (Jvm.Cond.methodLink "FlockHutsLaw" (244 : Nat) ({ cls := "FlockHutsLaw", name := "read", desc := "(LFlockHuts;[J)I" } : Jvm.MethodName)) ∈ lw_all := lw_g (lw_at lw_m7 234 rfl) rfl
theorem q1751 : (Jvm.Cond.static ({ cls := "FlockHutsLaw", name := "read", desc := "(LFlockHuts;[J)I" } : Jvm.MethodName)) ∈ lw_all := lw_g (lw_at lw_m7 235 rfl) rfl
theorem q1752 : (Jvm.Cond.codeWith ({ cls := "FlockHutsLaw", name := "read", desc := "(LFlockHuts;[J)I" } : Jvm.MethodName) method_29_code (3 : Nat) (Option.some Jvm.ClassFile.FieldType.int) [((0 : Nat), (8 : Nat), (11 : Nat), (13 : Nat)), ((0 : Nat), (8 : Nat), (14 : Nat), (15 : Nat))]) ∈ lw_all := lw_g (lw_at lw_m7 236 rfl) rfl
theorem q1753 : (Jvm.Cond.methodLink "FlockHutsLaw" (107 : Nat) ({ cls := "FlockHuts", name := "read", desc := "()I" } : Jvm.MethodName)) ∈ lw_all := lw_g (lw_at lw_m7 237 rfl) rfl
theorem q1912 : (Jvm.Cond.methodLink "FlockHutsLaw" (247 : Nat) ({ cls := "FlockHutsLaw", name := "errorPosition", desc := "(LFlockHuts;[J)I" } : Jvm.MethodName)) ∈ lw_all := lw_g (lw_at lw_m8 156 rfl) rfl
theorem q1913 : (Jvm.Cond.static ({ cls := "FlockHutsLaw", name := "errorPosition", desc := "(LFlockHuts;[J)I" } : Jvm.MethodName)) ∈ lw_all := lw_g (lw_at lw_m8 157 rfl) rfl
theorem q1914 : (Jvm.Cond.codeWith ({ cls := "FlockHutsLaw", name := "errorPosition", desc := "(LFlockHuts;[J)I" } : Jvm.MethodName) method_30_code (3 : Nat) (Option.some Jvm.ClassFile.FieldType.int) [((0 : Nat), (8 : Nat), (11 : Nat), (52 : Nat))]) ∈ lw_all := lw_g (lw_at lw_m8 158 rfl) rfl
theorem q1915 : (Jvm.Cond.methodLink "FlockHutsLaw" (110 : Nat) ({ cls := "FlockHuts", name := "errorPosition", desc := "()I" } : Jvm.MethodName)) ∈ lw_all := lw_g (lw_at lw_m8 159 rfl) rfl
theorem q1919 : (Jvm.Cond.methodLink "FlockHutsLaw" (250 : Nat) ({ cls := "FlockHutsLaw", name := "refusedItem", desc := "(LFlockHuts;[J)I" } : Jvm.MethodName)) ∈ lw_all := lw_g (lw_at lw_m8 163 rfl) rfl
theorem q1920 : (Jvm.Cond.static ({ cls := "FlockHutsLaw", name := "refusedItem", desc := "(LFlockHuts;[J)I" } : Jvm.MethodName)) ∈ lw_all := lw_g (lw_at lw_m8 164 rfl) rfl
theorem q1921 : (Jvm.Cond.codeWith ({ cls := "FlockHutsLaw", name := "refusedItem", desc := "(LFlockHuts;[J)I" } : Jvm.MethodName) method_31_code (3 : Nat) (Option.some Jvm.ClassFile.FieldType.int) [((0 : Nat), (8 : Nat), (11 : Nat), (52 : Nat))]) ∈ lw_all := lw_g (lw_at lw_m8 165 rfl) rfl
theorem q1922 : (Jvm.Cond.methodLink "FlockHutsLaw" (113 : Nat) ({ cls := "FlockHuts", name := "refusedItem", desc := "()I" } : Jvm.MethodName)) ∈ lw_all := lw_g (lw_at lw_m8 166 rfl) rfl
theorem q1926 : (Jvm.Cond.methodLink "FlockHutsLaw" (253 : Nat) ({ cls := "FlockHutsLaw", name := "undo", desc := "(LFlockHuts;[J)I" } : Jvm.MethodName)) ∈ lw_all := lw_g (lw_at lw_m8 170 rfl) rfl
theorem q1927 : (Jvm.Cond.static ({ cls := "FlockHutsLaw", name := "undo", desc := "(LFlockHuts;[J)I" } : Jvm.MethodName)) ∈ lw_all := lw_g (lw_at lw_m8 171 rfl) rfl
theorem q1928 : (Jvm.Cond.codeWith ({ cls := "FlockHutsLaw", name := "undo", desc := "(LFlockHuts;[J)I" } : Jvm.MethodName) method_32_code (3 : Nat) (Option.some Jvm.ClassFile.FieldType.int) [((0 : Nat), (8 : Nat), (11 : Nat), (89 : Nat))]) ∈ lw_all := lw_g (lw_at lw_m8 172 rfl) rfl
theorem q1929 : (Jvm.Cond.methodLink "FlockHutsLaw" (116 : Nat) ({ cls := "FlockHuts", name := "undo", desc := "()I" } : Jvm.MethodName)) ∈ lw_all := lw_g (lw_at lw_m8 173 rfl) rfl
theorem q1948 : (Jvm.Cond.methodLink "FlockHutsLaw" (260 : Nat) ({ cls := "FlockHutsLaw", name := "restore", desc := "(LFlockHuts;[J)I" } : Jvm.MethodName)) ∈ lw_all := lw_g (lw_at lw_m8 192 rfl) rfl
theorem q1949 : (Jvm.Cond.static ({ cls := "FlockHutsLaw", name := "restore", desc := "(LFlockHuts;[J)I" } : Jvm.MethodName)) ∈ lw_all := lw_g (lw_at lw_m8 193 rfl) rfl
theorem q1950 : (Jvm.Cond.codeWith ({ cls := "FlockHutsLaw", name := "restore", desc := "(LFlockHuts;[J)I" } : Jvm.MethodName) method_33_code (3 : Nat) (Option.some Jvm.ClassFile.FieldType.int) [((0 : Nat), (8 : Nat), (11 : Nat), (89 : Nat))]) ∈ lw_all := lw_g (lw_at lw_m8 194 rfl) rfl
theorem q1951 : (Jvm.Cond.methodLink "FlockHutsLaw" (119 : Nat) ({ cls := "FlockHuts", name := "restore", desc := "()I" } : Jvm.MethodName)) ∈ lw_all := lw_g (lw_at lw_m8 195 rfl) rfl
theorem q1955 : (Jvm.Cond.classLink "FlockHutsLaw" (123 : Nat) "FlockHutsModel") ∈ lw_all := lw_g (lw_at lw_m8 199 rfl) rfl
theorem q1957 : (Jvm.Cond.methodLink "FlockHutsLaw" (125 : Nat) ({ cls := "FlockHutsModel", name := "<init>", desc := "()V" } : Jvm.MethodName)) ∈ lw_all := lw_g (lw_at lw_m8 201 rfl) rfl
theorem q2044 : (Jvm.Cond.methodLink "FlockHutsLaw" (136 : Nat) ({ cls := "FlockHutsModel", name := "thrown", desc := "()I" } : Jvm.MethodName)) ∈ lw_all := lw_g (lw_at lw_m9 48 rfl) rfl
theorem q2048 : (Jvm.Cond.methodLink "FlockHutsLaw" (129 : Nat) ({ cls := "FlockHutsModel", name := "clear", desc := "()I" } : Jvm.MethodName)) ∈ lw_all := lw_g (lw_at lw_m9 52 rfl) rfl
theorem q2052 : (Jvm.Cond.methodLink "FlockHutsLaw" (135 : Nat) ({ cls := "FlockHutsModel", name := "sheep", desc := "(III)I" } : Jvm.MethodName)) ∈ lw_all := lw_g (lw_at lw_m9 56 rfl) rfl
theorem q2101 : (Jvm.Cond.methodLink "FlockHutsLaw" (142 : Nat) ({ cls := "FlockHutsModel", name := "hut", desc := "(II)I" } : Jvm.MethodName)) ∈ lw_all := lw_g (lw_at lw_m9 105 rfl) rfl
theorem q2113 : (Jvm.Cond.methodLink "FlockHutsLaw" (146 : Nat) ({ cls := "FlockHutsModel", name := "leave", desc := "(I)I" } : Jvm.MethodName)) ∈ lw_all := lw_g (lw_at lw_m9 117 rfl) rfl
theorem q2125 : (Jvm.Cond.methodLink "FlockHutsLaw" (149 : Nat) ({ cls := "FlockHutsModel", name := "strike", desc := "(I)I" } : Jvm.MethodName)) ∈ lw_all := lw_g (lw_at lw_m9 129 rfl) rfl
theorem q2141 : (Jvm.Cond.methodLink "FlockHutsLaw" (152 : Nat) ({ cls := "FlockHutsModel", name := "move", desc := "(III)I" } : Jvm.MethodName)) ∈ lw_all := lw_g (lw_at lw_m9 145 rfl) rfl
theorem q2149 : (Jvm.Cond.methodLink "FlockHutsLaw" (155 : Nat) ({ cls := "FlockHutsModel", name := "weigh", desc := "(II)I" } : Jvm.MethodName)) ∈ lw_all := lw_g (lw_at lw_m9 153 rfl) rfl
theorem q2157 : (Jvm.Cond.methodLink "FlockHutsLaw" (158 : Nat) ({ cls := "FlockHutsModel", name := "sheepOf", desc := "(II)I" } : Jvm.MethodName)) ∈ lw_all := lw_g (lw_at lw_m9 161 rfl) rfl
theorem q2173 : (Jvm.Cond.methodLink "FlockHutsLaw" (161 : Nat) ({ cls := "FlockHutsModel", name := "hutOf", desc := "(II)I" } : Jvm.MethodName)) ∈ lw_all := lw_g (lw_at lw_m9 177 rfl) rfl
theorem q2193 : (Jvm.Cond.methodLink "FlockHutsLaw" (165 : Nat) ({ cls := "FlockHutsModel", name := "round", desc := "()I" } : Jvm.MethodName)) ∈ lw_all := lw_g (lw_at lw_m9 197 rfl) rfl
theorem q2217 : (Jvm.Cond.methodLink "FlockHutsLaw" (168 : Nat) ({ cls := "FlockHutsModel", name := "settle", desc := "(I)I" } : Jvm.MethodName)) ∈ lw_all := lw_g (lw_at lw_m9 221 rfl) rfl
theorem q2229 : (Jvm.Cond.methodLink "FlockHutsLaw" (173 : Nat) ({ cls := "FlockHutsModel", name := "isStill", desc := "()Z" } : Jvm.MethodName)) ∈ lw_all := lw_g (lw_at lw_m9 233 rfl) rfl
theorem q2233 : (Jvm.Cond.methodLink "FlockHutsLaw" (177 : Nat) ({ cls := "FlockHutsModel", name := "roundsToStill", desc := "()I" } : Jvm.MethodName)) ∈ lw_all := lw_g (lw_at lw_m9 237 rfl) rfl
theorem q2245 : (Jvm.Cond.methodLink "FlockHutsLaw" (181 : Nat) ({ cls := "FlockHutsModel", name := "spread", desc := "(Z)I" } : Jvm.MethodName)) ∈ lw_all := lw_g (lw_at lw_m10 9 rfl) rfl
theorem q2253 : (Jvm.Cond.methodLink "FlockHutsLaw" (184 : Nat) ({ cls := "FlockHutsModel", name := "spreadAfter", desc := "(I)I" } : Jvm.MethodName)) ∈ lw_all := lw_g (lw_at lw_m10 17 rfl) rfl
theorem q2257 : (Jvm.Cond.methodLink "FlockHutsLaw" (187 : Nat) ({ cls := "FlockHutsModel", name := "spreadWith", desc := "(II)I" } : Jvm.MethodName)) ∈ lw_all := lw_g (lw_at lw_m10 21 rfl) rfl
theorem q2261 : (Jvm.Cond.methodLink "FlockHutsLaw" (190 : Nat) ({ cls := "FlockHutsModel", name := "nearest", desc := "(II)I" } : Jvm.MethodName)) ∈ lw_all := lw_g (lw_at lw_m10 25 rfl) rfl
theorem q2265 : (Jvm.Cond.methodLink "FlockHutsLaw" (194 : Nat) ({ cls := "FlockHutsModel", name := "strays", desc := "()I" } : Jvm.MethodName)) ∈ lw_all := lw_g (lw_at lw_m10 29 rfl) rfl
theorem q2273 : (Jvm.Cond.methodLink "FlockHutsLaw" (197 : Nat) ({ cls := "FlockHutsModel", name := "stray", desc := "(I)I" } : Jvm.MethodName)) ∈ lw_all := lw_g (lw_at lw_m10 37 rfl) rfl
theorem q2277 : (Jvm.Cond.methodLink "FlockHutsLaw" (200 : Nat) ({ cls := "FlockHutsModel", name := "dog", desc := "(II)I" } : Jvm.MethodName)) ∈ lw_all := lw_g (lw_at lw_m10 41 rfl) rfl
theorem q2285 : (Jvm.Cond.methodLink "FlockHutsLaw" (203 : Nat) ({ cls := "FlockHutsModel", name := "fetch", desc := "(I)I" } : Jvm.MethodName)) ∈ lw_all := lw_g (lw_at lw_m10 49 rfl) rfl
theorem q2293 : (Jvm.Cond.methodLink "FlockHutsLaw" (206 : Nat) ({ cls := "FlockHutsModel", name := "dogAt", desc := "(I)I" } : Jvm.MethodName)) ∈ lw_all := lw_g (lw_at lw_m10 57 rfl) rfl
theorem q2297 : (Jvm.Cond.methodLink "FlockHutsLaw" (209 : Nat) ({ cls := "FlockHutsModel", name := "apart", desc := "(II)I" } : Jvm.MethodName)) ∈ lw_all := lw_g (lw_at lw_m10 61 rfl) rfl
theorem q2301 : (Jvm.Cond.methodLink "FlockHutsLaw" (212 : Nat) ({ cls := "FlockHutsModel", name := "ranked", desc := "(I)I" } : Jvm.MethodName)) ∈ lw_all := lw_g (lw_at lw_m10 65 rfl) rfl
theorem q2309 : (Jvm.Cond.methodLink "FlockHutsLaw" (216 : Nat) ({ cls := "FlockHutsModel", name := "isRight", desc := "()Z" } : Jvm.MethodName)) ∈ lw_all := lw_g (lw_at lw_m10 73 rfl) rfl
theorem q2313 : (Jvm.Cond.methodLink "FlockHutsLaw" (219 : Nat) ({ cls := "FlockHutsModel", name := "hutLine", desc := "(I)I" } : Jvm.MethodName)) ∈ lw_all := lw_g (lw_at lw_m10 77 rfl) rfl
theorem q2325 : (Jvm.Cond.methodLink "FlockHutsLaw" (223 : Nat) ({ cls := "FlockHutsModel", name := "line", desc := "()I" } : Jvm.MethodName)) ∈ lw_all := lw_g (lw_at lw_m10 89 rfl) rfl
theorem q2329 : (Jvm.Cond.methodLink "FlockHutsLaw" (226 : Nat) ({ cls := "FlockHutsModel", name := "character", desc := "(I)C" } : Jvm.MethodName)) ∈ lw_all := lw_g (lw_at lw_m10 93 rfl) rfl
theorem q2333 : (Jvm.Cond.methodLink "FlockHutsLaw" (230 : Nat) ({ cls := "FlockHutsModel", name := "refusal", desc := "(Z)I" } : Jvm.MethodName)) ∈ lw_all := lw_g (lw_at lw_m10 97 rfl) rfl
theorem q2337 : (Jvm.Cond.methodLink "FlockHutsLaw" (233 : Nat) ({ cls := "FlockHutsModel", name := "account", desc := "(I)I" } : Jvm.MethodName)) ∈ lw_all := lw_g (lw_at lw_m10 101 rfl) rfl
theorem q2349 : (Jvm.Cond.methodLink "FlockHutsLaw" (237 : Nat) ({ cls := "FlockHutsModel", name := "meanDistance", desc := "()D" } : Jvm.MethodName)) ∈ lw_all := lw_g (lw_at lw_m10 113 rfl) rfl
theorem q2353 : (Jvm.Cond.methodLink "FlockHutsLaw" (240 : Nat) ({ cls := "FlockHutsModel", name := "strayShare", desc := "()F" } : Jvm.MethodName)) ∈ lw_all := lw_g (lw_at lw_m10 117 rfl) rfl
theorem q2357 : (Jvm.Cond.methodLink "FlockHutsLaw" (243 : Nat) ({ cls := "FlockHutsModel", name := "append", desc := "(I)I" } : Jvm.MethodName)) ∈ lw_all := lw_g (lw_at lw_m10 121 rfl) rfl
theorem q2361 : (Jvm.Cond.methodLink "FlockHutsLaw" (246 : Nat) ({ cls := "FlockHutsModel", name := "read", desc := "()I" } : Jvm.MethodName)) ∈ lw_all := lw_g (lw_at lw_m10 125 rfl) rfl
theorem q2400 : (Jvm.Cond.methodLink "FlockHutsLaw" (249 : Nat) ({ cls := "FlockHutsModel", name := "errorPosition", desc := "()I" } : Jvm.MethodName)) ∈ lw_all := lw_g (lw_at lw_m10 164 rfl) rfl
theorem q2404 : (Jvm.Cond.methodLink "FlockHutsLaw" (252 : Nat) ({ cls := "FlockHutsModel", name := "refusedItem", desc := "()I" } : Jvm.MethodName)) ∈ lw_all := lw_g (lw_at lw_m10 168 rfl) rfl
theorem q2408 : (Jvm.Cond.methodLink "FlockHutsLaw" (255 : Nat) ({ cls := "FlockHutsModel", name := "undo", desc := "()I" } : Jvm.MethodName)) ∈ lw_all := lw_g (lw_at lw_m10 172 rfl) rfl
theorem q2412 : (Jvm.Cond.methodLink "FlockHutsLaw" (259 : Nat) ({ cls := "FlockHutsModel", name := "snapshot", desc := "()I" } : Jvm.MethodName)) ∈ lw_all := lw_g (lw_at lw_m10 176 rfl) rfl
theorem q2416 : (Jvm.Cond.methodLink "FlockHutsLaw" (262 : Nat) ({ cls := "FlockHutsModel", name := "restore", desc := "()I" } : Jvm.MethodName)) ∈ lw_all := lw_g (lw_at lw_m10 180 rfl) rfl

