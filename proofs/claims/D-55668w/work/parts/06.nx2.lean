/-! FlockHuts$Field -/
set_option maxRecDepth 100000
def RX2 : String := "FlockHuts$Field"
def TX2 : u_T := fun k => match k with
  | 0 => ("FlockHuts$Field", "sheep", "Ljava/util/ArrayList;", true)
  | 1 => ("FlockHuts$Field", "huts", "Ljava/util/ArrayList;", true)
  | 2 => ("FlockHuts$Field", "dogs", "[I", true)
  | 3 => ("FlockHuts$Field", "rounds", "I", false)
  | 4 => ("FlockHuts$Field", "anew", "I", false)
  | 5 => ("FlockHuts$Field", "fetched", "I", false)
  | _ => ("FlockHuts$Field", "changed", "I", false)
def tyX2 : Nat → FieldType := fun k => match k with
  | 0 => .object "java/util/ArrayList"
  | 1 => .object "java/util/ArrayList"
  | 2 => .array .int
  | 3 => .int
  | 4 => .int
  | 5 => .int
  | _ => .int
abbrev wsX20 : List Cond := u_ws RX2 TX2 7
theorem nmX2 : ∀ a, a < 7 → ∀ b, b < 7 → a ≠ b → (TX2 a).2.1 ≠ (TX2 b).2.1 := by decide +kernel
theorem tyX2_ok : ∀ k, k < 7 → parseFieldDescriptor (TX2 k).2.2.1 = some (tyX2 k) := by decide +kernel
abbrev cX2_init : ByteArray := prog_2_method_1_code
def yX2_init : MethodName := ⟨RX2, "<init>", "()V"⟩
def dkwX2_init_1 : List UInt8 := [181, 0, 18, 42, 6, 188, 10, 89, 3, 2, 79, 89, 4, 2, 79, 89, 5, 2, 79, 181, 0, 21, 177]
abbrev dktX2_init_1 : List UInt8 := dkwX2_init_1 ++ []
def dkwX2_init_0 : List UInt8 := [42, 183, 0, 3, 42, 187, 0, 9, 89, 183, 0, 11, 181, 0, 12, 42, 187, 0, 9, 89, 183, 0, 11]
abbrev dktX2_init_0 : List UInt8 := dkwX2_init_0 ++ dktX2_init_1
theorem dksX2_init_0 : cX2_init.data.toList.drop 0 = dktX2_init_0 := by decide +kernel
theorem dksX2_init_1 : cX2_init.data.toList.drop 23 = dktX2_init_1 := dk_seg dksX2_init_0 23 rfl rfl
theorem dX2_init_0 : decode cX2_init 0 = .ok (.aload_n 0, 1) := dk_42 (dk_at dksX2_init_0 0 rfl rfl)
theorem dX2_init_1 : decode cX2_init 1 = .ok (.invokespecial 3, 3) := dk_183 0 3 (dk_at dksX2_init_0 1 rfl rfl)
theorem dX2_init_4 : decode cX2_init 4 = .ok (.aload_n 0, 1) := dk_42 (dk_at dksX2_init_0 4 rfl rfl)
theorem dX2_init_5 : decode cX2_init 5 = .ok (.new 9, 3) := dk_187 0 9 (dk_at dksX2_init_0 5 rfl rfl)
theorem dX2_init_8 : decode cX2_init 8 = .ok (.dup, 1) := dk_89 (dk_at dksX2_init_0 8 rfl rfl)
theorem dX2_init_9 : decode cX2_init 9 = .ok (.invokespecial 11, 3) := dk_183 0 11 (dk_at dksX2_init_0 9 rfl rfl)
theorem dX2_init_12 : decode cX2_init 12 = .ok (.putfield 12, 3) := dk_181 0 12 (dk_at dksX2_init_0 12 rfl rfl)
theorem dX2_init_15 : decode cX2_init 15 = .ok (.aload_n 0, 1) := dk_42 (dk_at dksX2_init_0 15 rfl rfl)
theorem dX2_init_16 : decode cX2_init 16 = .ok (.new 9, 3) := dk_187 0 9 (dk_at dksX2_init_0 16 rfl rfl)
theorem dX2_init_19 : decode cX2_init 19 = .ok (.dup, 1) := dk_89 (dk_at dksX2_init_0 19 rfl rfl)
theorem dX2_init_20 : decode cX2_init 20 = .ok (.invokespecial 11, 3) := dk_183 0 11 (dk_at dksX2_init_0 20 rfl rfl)
theorem dX2_init_23 : decode cX2_init 23 = .ok (.putfield 18, 3) := dk_181 0 18 (dk_at dksX2_init_1 0 rfl rfl)
theorem dX2_init_26 : decode cX2_init 26 = .ok (.aload_n 0, 1) := dk_42 (dk_at dksX2_init_1 3 rfl rfl)
theorem dX2_init_27 : decode cX2_init 27 = .ok (.iconst 3, 1) := dk_6 (dk_at dksX2_init_1 4 rfl rfl)
theorem dX2_init_28 : decode cX2_init 28 = .ok (.newarray .int, 2) := dk_188_10 (dk_at dksX2_init_1 5 rfl rfl)
theorem dX2_init_30 : decode cX2_init 30 = .ok (.dup, 1) := dk_89 (dk_at dksX2_init_1 7 rfl rfl)
theorem dX2_init_31 : decode cX2_init 31 = .ok (.iconst 0, 1) := dk_3 (dk_at dksX2_init_1 8 rfl rfl)
theorem dX2_init_32 : decode cX2_init 32 = .ok (.iconst (-1), 1) := dk_2 (dk_at dksX2_init_1 9 rfl rfl)
theorem dX2_init_33 : decode cX2_init 33 = .ok (.iastore, 1) := dk_79 (dk_at dksX2_init_1 10 rfl rfl)
theorem dX2_init_34 : decode cX2_init 34 = .ok (.dup, 1) := dk_89 (dk_at dksX2_init_1 11 rfl rfl)
theorem dX2_init_35 : decode cX2_init 35 = .ok (.iconst 1, 1) := dk_4 (dk_at dksX2_init_1 12 rfl rfl)
theorem dX2_init_36 : decode cX2_init 36 = .ok (.iconst (-1), 1) := dk_2 (dk_at dksX2_init_1 13 rfl rfl)
theorem dX2_init_37 : decode cX2_init 37 = .ok (.iastore, 1) := dk_79 (dk_at dksX2_init_1 14 rfl rfl)
theorem dX2_init_38 : decode cX2_init 38 = .ok (.dup, 1) := dk_89 (dk_at dksX2_init_1 15 rfl rfl)
theorem dX2_init_39 : decode cX2_init 39 = .ok (.iconst 2, 1) := dk_5 (dk_at dksX2_init_1 16 rfl rfl)
theorem dX2_init_40 : decode cX2_init 40 = .ok (.iconst (-1), 1) := dk_2 (dk_at dksX2_init_1 17 rfl rfl)
theorem dX2_init_41 : decode cX2_init 41 = .ok (.iastore, 1) := dk_79 (dk_at dksX2_init_1 18 rfl rfl)
theorem dX2_init_42 : decode cX2_init 42 = .ok (.putfield 21, 3) := dk_181 0 21 (dk_at dksX2_init_1 19 rfl rfl)
theorem dX2_init_45 : decode cX2_init 45 = .ok (.return_, 1) := dk_177 (dk_at dksX2_init_1 22 rfl rfl)
abbrev cX2_isStill : ByteArray := prog_2_method_23_code
def yX2_isStill : MethodName := ⟨RX2, "isStill", "()Z"⟩
def dkwX2_isStill_4 : List UInt8 := [132, 3, 1, 167, 255, 191, 28, 172]
abbrev dktX2_isStill_4 : List UInt8 := dkwX2_isStill_4 ++ []
def dkwX2_isStill_3 : List UInt8 := [180, 0, 12, 29, 182, 0, 95, 192, 0, 40, 180, 0, 107, 160, 0, 7, 4, 167, 0, 4, 3, 61]
abbrev dktX2_isStill_3 : List UInt8 := dkwX2_isStill_3 ++ dktX2_isStill_4
def dkwX2_isStill_2 : List UInt8 := [180, 0, 18, 182, 0, 192, 154, 0, 34, 42, 180, 0, 12, 29, 182, 0, 95, 192, 0, 40, 180, 0, 107, 43]
abbrev dktX2_isStill_2 : List UInt8 := dkwX2_isStill_2 ++ dktX2_isStill_3
def dkwX2_isStill_1 : List UInt8 := [167, 0, 4, 3, 61, 3, 62, 29, 42, 180, 0, 12, 182, 0, 79, 162, 0, 60, 28, 153, 0, 56, 42]
abbrev dktX2_isStill_1 : List UInt8 := dkwX2_isStill_1 ++ dktX2_isStill_2
def dkwX2_isStill_0 : List UInt8 := [42, 182, 0, 189, 76, 42, 180, 0, 18, 182, 0, 192, 154, 0, 10, 43, 182, 0, 193, 154, 0, 7, 4]
abbrev dktX2_isStill_0 : List UInt8 := dkwX2_isStill_0 ++ dktX2_isStill_1
theorem dksX2_isStill_0 : cX2_isStill.data.toList.drop 0 = dktX2_isStill_0 := by decide +kernel
theorem dksX2_isStill_1 : cX2_isStill.data.toList.drop 23 = dktX2_isStill_1 := dk_seg dksX2_isStill_0 23 rfl rfl
theorem dksX2_isStill_2 : cX2_isStill.data.toList.drop 46 = dktX2_isStill_2 := dk_seg dksX2_isStill_1 23 rfl rfl
theorem dksX2_isStill_3 : cX2_isStill.data.toList.drop 70 = dktX2_isStill_3 := dk_seg dksX2_isStill_2 24 rfl rfl
theorem dksX2_isStill_4 : cX2_isStill.data.toList.drop 92 = dktX2_isStill_4 := dk_seg dksX2_isStill_3 22 rfl rfl
theorem dX2_isStill_0 : decode cX2_isStill 0 = .ok (.aload_n 0, 1) := dk_42 (dk_at dksX2_isStill_0 0 rfl rfl)
theorem dX2_isStill_1 : decode cX2_isStill 1 = .ok (.invokevirtual 189, 3) := dk_182 0 189 (dk_at dksX2_isStill_0 1 rfl rfl)
theorem dX2_isStill_4 : decode cX2_isStill 4 = .ok (.astore_n 1, 1) := dk_76 (dk_at dksX2_isStill_0 4 rfl rfl)
theorem dX2_isStill_5 : decode cX2_isStill 5 = .ok (.aload_n 0, 1) := dk_42 (dk_at dksX2_isStill_0 5 rfl rfl)
theorem dX2_isStill_6 : decode cX2_isStill 6 = .ok (.getfield 18, 3) := dk_180 0 18 (dk_at dksX2_isStill_0 6 rfl rfl)
theorem dX2_isStill_9 : decode cX2_isStill 9 = .ok (.invokevirtual 192, 3) := dk_182 0 192 (dk_at dksX2_isStill_0 9 rfl rfl)
theorem dX2_isStill_12 : decode cX2_isStill 12 = .ok (.ifCond .ne 10, 3) := dk_154 0 10 (dk_at dksX2_isStill_0 12 rfl rfl)
theorem dX2_isStill_15 : decode cX2_isStill 15 = .ok (.aload_n 1, 1) := dk_43 (dk_at dksX2_isStill_0 15 rfl rfl)
theorem dX2_isStill_16 : decode cX2_isStill 16 = .ok (.invokevirtual 193, 3) := dk_182 0 193 (dk_at dksX2_isStill_0 16 rfl rfl)
theorem dX2_isStill_19 : decode cX2_isStill 19 = .ok (.ifCond .ne 7, 3) := dk_154 0 7 (dk_at dksX2_isStill_0 19 rfl rfl)
theorem dX2_isStill_22 : decode cX2_isStill 22 = .ok (.iconst 1, 1) := dk_4 (dk_at dksX2_isStill_0 22 rfl rfl)
theorem dX2_isStill_23 : decode cX2_isStill 23 = .ok (.goto 4, 3) := dk_167 0 4 (dk_at dksX2_isStill_1 0 rfl rfl)
theorem dX2_isStill_26 : decode cX2_isStill 26 = .ok (.iconst 0, 1) := dk_3 (dk_at dksX2_isStill_1 3 rfl rfl)
theorem dX2_isStill_27 : decode cX2_isStill 27 = .ok (.istore_n 2, 1) := dk_61 (dk_at dksX2_isStill_1 4 rfl rfl)
theorem dX2_isStill_28 : decode cX2_isStill 28 = .ok (.iconst 0, 1) := dk_3 (dk_at dksX2_isStill_1 5 rfl rfl)
theorem dX2_isStill_29 : decode cX2_isStill 29 = .ok (.istore_n 3, 1) := dk_62 (dk_at dksX2_isStill_1 6 rfl rfl)
theorem dX2_isStill_30 : decode cX2_isStill 30 = .ok (.iload_n 3, 1) := dk_29 (dk_at dksX2_isStill_1 7 rfl rfl)
theorem dX2_isStill_31 : decode cX2_isStill 31 = .ok (.aload_n 0, 1) := dk_42 (dk_at dksX2_isStill_1 8 rfl rfl)
theorem dX2_isStill_32 : decode cX2_isStill 32 = .ok (.getfield 12, 3) := dk_180 0 12 (dk_at dksX2_isStill_1 9 rfl rfl)
theorem dX2_isStill_35 : decode cX2_isStill 35 = .ok (.invokevirtual 79, 3) := dk_182 0 79 (dk_at dksX2_isStill_1 12 rfl rfl)
theorem dX2_isStill_38 : decode cX2_isStill 38 = .ok (.if_icmp .ge 60, 3) := dk_162 0 60 (dk_at dksX2_isStill_1 15 rfl rfl)
theorem dX2_isStill_41 : decode cX2_isStill 41 = .ok (.iload_n 2, 1) := dk_28 (dk_at dksX2_isStill_1 18 rfl rfl)
theorem dX2_isStill_42 : decode cX2_isStill 42 = .ok (.ifCond .eq 56, 3) := dk_153 0 56 (dk_at dksX2_isStill_1 19 rfl rfl)
theorem dX2_isStill_45 : decode cX2_isStill 45 = .ok (.aload_n 0, 1) := dk_42 (dk_at dksX2_isStill_1 22 rfl rfl)
theorem dX2_isStill_46 : decode cX2_isStill 46 = .ok (.getfield 18, 3) := dk_180 0 18 (dk_at dksX2_isStill_2 0 rfl rfl)
theorem dX2_isStill_49 : decode cX2_isStill 49 = .ok (.invokevirtual 192, 3) := dk_182 0 192 (dk_at dksX2_isStill_2 3 rfl rfl)
theorem dX2_isStill_52 : decode cX2_isStill 52 = .ok (.ifCond .ne 34, 3) := dk_154 0 34 (dk_at dksX2_isStill_2 6 rfl rfl)
theorem dX2_isStill_55 : decode cX2_isStill 55 = .ok (.aload_n 0, 1) := dk_42 (dk_at dksX2_isStill_2 9 rfl rfl)
theorem dX2_isStill_56 : decode cX2_isStill 56 = .ok (.getfield 12, 3) := dk_180 0 12 (dk_at dksX2_isStill_2 10 rfl rfl)
theorem dX2_isStill_59 : decode cX2_isStill 59 = .ok (.iload_n 3, 1) := dk_29 (dk_at dksX2_isStill_2 13 rfl rfl)
theorem dX2_isStill_60 : decode cX2_isStill 60 = .ok (.invokevirtual 95, 3) := dk_182 0 95 (dk_at dksX2_isStill_2 14 rfl rfl)
theorem dX2_isStill_63 : decode cX2_isStill 63 = .ok (.checkcast 40, 3) := dk_192 0 40 (dk_at dksX2_isStill_2 17 rfl rfl)
theorem dX2_isStill_66 : decode cX2_isStill 66 = .ok (.getfield 107, 3) := dk_180 0 107 (dk_at dksX2_isStill_2 20 rfl rfl)
theorem dX2_isStill_69 : decode cX2_isStill 69 = .ok (.aload_n 1, 1) := dk_43 (dk_at dksX2_isStill_2 23 rfl rfl)
theorem dX2_isStill_70 : decode cX2_isStill 70 = .ok (.getfield 12, 3) := dk_180 0 12 (dk_at dksX2_isStill_3 0 rfl rfl)
theorem dX2_isStill_73 : decode cX2_isStill 73 = .ok (.iload_n 3, 1) := dk_29 (dk_at dksX2_isStill_3 3 rfl rfl)
theorem dX2_isStill_74 : decode cX2_isStill 74 = .ok (.invokevirtual 95, 3) := dk_182 0 95 (dk_at dksX2_isStill_3 4 rfl rfl)
theorem dX2_isStill_77 : decode cX2_isStill 77 = .ok (.checkcast 40, 3) := dk_192 0 40 (dk_at dksX2_isStill_3 7 rfl rfl)
theorem dX2_isStill_80 : decode cX2_isStill 80 = .ok (.getfield 107, 3) := dk_180 0 107 (dk_at dksX2_isStill_3 10 rfl rfl)
theorem dX2_isStill_83 : decode cX2_isStill 83 = .ok (.if_icmp .ne 7, 3) := dk_160 0 7 (dk_at dksX2_isStill_3 13 rfl rfl)
theorem dX2_isStill_86 : decode cX2_isStill 86 = .ok (.iconst 1, 1) := dk_4 (dk_at dksX2_isStill_3 16 rfl rfl)
theorem dX2_isStill_87 : decode cX2_isStill 87 = .ok (.goto 4, 3) := dk_167 0 4 (dk_at dksX2_isStill_3 17 rfl rfl)
theorem dX2_isStill_90 : decode cX2_isStill 90 = .ok (.iconst 0, 1) := dk_3 (dk_at dksX2_isStill_3 20 rfl rfl)
theorem dX2_isStill_91 : decode cX2_isStill 91 = .ok (.istore_n 2, 1) := dk_61 (dk_at dksX2_isStill_3 21 rfl rfl)
theorem dX2_isStill_92 : decode cX2_isStill 92 = .ok (.iinc 3 1, 3) := dk_132 3 1 (dk_at dksX2_isStill_4 0 rfl rfl)
theorem dX2_isStill_95 : decode cX2_isStill 95 = .ok (.goto (-65), 3) := dk_167 255 191 (dk_at dksX2_isStill_4 3 rfl rfl)
theorem dX2_isStill_98 : decode cX2_isStill 98 = .ok (.iload_n 2, 1) := dk_28 (dk_at dksX2_isStill_4 6 rfl rfl)
theorem dX2_isStill_99 : decode cX2_isStill 99 = .ok (.ireturn, 1) := dk_172 (dk_at dksX2_isStill_4 7 rfl rfl)
abbrev cX2_copy : ByteArray := prog_2_method_2_code
def yX2_copy : MethodName := ⟨RX2, "copy", "()LFlockHuts$Field;"⟩
def dkwX2_copy_6 : List UInt8 := [181, 0, 71, 43, 176]
abbrev dktX2_copy_6 : List UInt8 := dkwX2_copy_6 ++ []
def dkwX2_copy_5 : List UInt8 := [181, 0, 61, 43, 42, 180, 0, 65, 181, 0, 65, 43, 42, 180, 0, 68, 181, 0, 68, 43, 42, 180, 0, 71]
abbrev dktX2_copy_5 : List UInt8 := dkwX2_copy_5 ++ dktX2_copy_6
def dkwX2_copy_4 : List UInt8 := [54, 4, 167, 255, 220, 42, 180, 0, 21, 3, 43, 180, 0, 21, 3, 6, 184, 0, 55, 43, 42, 180, 0, 61]
abbrev dktX2_copy_4 : List UInt8 := dkwX2_copy_4 ++ dktX2_copy_5
def dkwX2_copy_3 : List UInt8 := [185, 0, 36, 1, 0, 192, 0, 50, 78, 43, 180, 0, 18, 187, 0, 50, 89, 45, 183, 0, 52, 182, 0, 46]
abbrev dktX2_copy_3 : List UInt8 := dkwX2_copy_3 ++ dktX2_copy_4
def dkwX2_copy_2 : List UInt8 := [54, 4, 167, 255, 224, 42, 180, 0, 18, 182, 0, 26, 77, 44, 185, 0, 30, 1, 0, 153, 0, 33, 44]
abbrev dktX2_copy_2 : List UInt8 := dkwX2_copy_2 ++ dktX2_copy_3
def dkwX2_copy_1 : List UInt8 := [153, 0, 29, 44, 185, 0, 36, 1, 0, 192, 0, 40, 78, 43, 180, 0, 12, 45, 182, 0, 42, 182, 0, 46]
abbrev dktX2_copy_1 : List UInt8 := dkwX2_copy_1 ++ dktX2_copy_2
def dkwX2_copy_0 : List UInt8 := [187, 0, 13, 89, 183, 0, 25, 76, 42, 180, 0, 12, 182, 0, 26, 77, 44, 185, 0, 30, 1, 0]
abbrev dktX2_copy_0 : List UInt8 := dkwX2_copy_0 ++ dktX2_copy_1
theorem dksX2_copy_0 : cX2_copy.data.toList.drop 0 = dktX2_copy_0 := by decide +kernel
theorem dksX2_copy_1 : cX2_copy.data.toList.drop 22 = dktX2_copy_1 := dk_seg dksX2_copy_0 22 rfl rfl
theorem dksX2_copy_2 : cX2_copy.data.toList.drop 46 = dktX2_copy_2 := dk_seg dksX2_copy_1 24 rfl rfl
theorem dksX2_copy_3 : cX2_copy.data.toList.drop 69 = dktX2_copy_3 := dk_seg dksX2_copy_2 23 rfl rfl
theorem dksX2_copy_4 : cX2_copy.data.toList.drop 93 = dktX2_copy_4 := dk_seg dksX2_copy_3 24 rfl rfl
theorem dksX2_copy_5 : cX2_copy.data.toList.drop 117 = dktX2_copy_5 := dk_seg dksX2_copy_4 24 rfl rfl
theorem dksX2_copy_6 : cX2_copy.data.toList.drop 141 = dktX2_copy_6 := dk_seg dksX2_copy_5 24 rfl rfl
theorem dX2_copy_0 : decode cX2_copy 0 = .ok (.new 13, 3) := dk_187 0 13 (dk_at dksX2_copy_0 0 rfl rfl)
theorem dX2_copy_3 : decode cX2_copy 3 = .ok (.dup, 1) := dk_89 (dk_at dksX2_copy_0 3 rfl rfl)
theorem dX2_copy_4 : decode cX2_copy 4 = .ok (.invokespecial 25, 3) := dk_183 0 25 (dk_at dksX2_copy_0 4 rfl rfl)
theorem dX2_copy_7 : decode cX2_copy 7 = .ok (.astore_n 1, 1) := dk_76 (dk_at dksX2_copy_0 7 rfl rfl)
theorem dX2_copy_8 : decode cX2_copy 8 = .ok (.aload_n 0, 1) := dk_42 (dk_at dksX2_copy_0 8 rfl rfl)
theorem dX2_copy_9 : decode cX2_copy 9 = .ok (.getfield 12, 3) := dk_180 0 12 (dk_at dksX2_copy_0 9 rfl rfl)
theorem dX2_copy_12 : decode cX2_copy 12 = .ok (.invokevirtual 26, 3) := dk_182 0 26 (dk_at dksX2_copy_0 12 rfl rfl)
theorem dX2_copy_15 : decode cX2_copy 15 = .ok (.astore_n 2, 1) := dk_77 (dk_at dksX2_copy_0 15 rfl rfl)
theorem dX2_copy_16 : decode cX2_copy 16 = .ok (.aload_n 2, 1) := dk_44 (dk_at dksX2_copy_0 16 rfl rfl)
theorem dX2_copy_17 : decode cX2_copy 17 = .ok (.invokeinterface 30 1, 5) := by decide +kernel
theorem dX2_copy_22 : decode cX2_copy 22 = .ok (.ifCond .eq 29, 3) := dk_153 0 29 (dk_at dksX2_copy_1 0 rfl rfl)
theorem dX2_copy_25 : decode cX2_copy 25 = .ok (.aload_n 2, 1) := dk_44 (dk_at dksX2_copy_1 3 rfl rfl)
theorem dX2_copy_26 : decode cX2_copy 26 = .ok (.invokeinterface 36 1, 5) := by decide +kernel
theorem dX2_copy_31 : decode cX2_copy 31 = .ok (.checkcast 40, 3) := dk_192 0 40 (dk_at dksX2_copy_1 9 rfl rfl)
theorem dX2_copy_34 : decode cX2_copy 34 = .ok (.astore_n 3, 1) := dk_78 (dk_at dksX2_copy_1 12 rfl rfl)
theorem dX2_copy_35 : decode cX2_copy 35 = .ok (.aload_n 1, 1) := dk_43 (dk_at dksX2_copy_1 13 rfl rfl)
theorem dX2_copy_36 : decode cX2_copy 36 = .ok (.getfield 12, 3) := dk_180 0 12 (dk_at dksX2_copy_1 14 rfl rfl)
theorem dX2_copy_39 : decode cX2_copy 39 = .ok (.aload_n 3, 1) := dk_45 (dk_at dksX2_copy_1 17 rfl rfl)
theorem dX2_copy_40 : decode cX2_copy 40 = .ok (.invokevirtual 42, 3) := dk_182 0 42 (dk_at dksX2_copy_1 18 rfl rfl)
theorem dX2_copy_43 : decode cX2_copy 43 = .ok (.invokevirtual 46, 3) := dk_182 0 46 (dk_at dksX2_copy_1 21 rfl rfl)
theorem dX2_copy_46 : decode cX2_copy 46 = .ok (.istore 4, 2) := dk_54 4 (dk_at dksX2_copy_2 0 rfl rfl)
theorem dX2_copy_48 : decode cX2_copy 48 = .ok (.goto (-32), 3) := dk_167 255 224 (dk_at dksX2_copy_2 2 rfl rfl)
theorem dX2_copy_51 : decode cX2_copy 51 = .ok (.aload_n 0, 1) := dk_42 (dk_at dksX2_copy_2 5 rfl rfl)
theorem dX2_copy_52 : decode cX2_copy 52 = .ok (.getfield 18, 3) := dk_180 0 18 (dk_at dksX2_copy_2 6 rfl rfl)
theorem dX2_copy_55 : decode cX2_copy 55 = .ok (.invokevirtual 26, 3) := dk_182 0 26 (dk_at dksX2_copy_2 9 rfl rfl)
theorem dX2_copy_58 : decode cX2_copy 58 = .ok (.astore_n 2, 1) := dk_77 (dk_at dksX2_copy_2 12 rfl rfl)
theorem dX2_copy_59 : decode cX2_copy 59 = .ok (.aload_n 2, 1) := dk_44 (dk_at dksX2_copy_2 13 rfl rfl)
theorem dX2_copy_60 : decode cX2_copy 60 = .ok (.invokeinterface 30 1, 5) := by decide +kernel
theorem dX2_copy_65 : decode cX2_copy 65 = .ok (.ifCond .eq 33, 3) := dk_153 0 33 (dk_at dksX2_copy_2 19 rfl rfl)
theorem dX2_copy_68 : decode cX2_copy 68 = .ok (.aload_n 2, 1) := dk_44 (dk_at dksX2_copy_2 22 rfl rfl)
theorem dX2_copy_69 : decode cX2_copy 69 = .ok (.invokeinterface 36 1, 5) := by decide +kernel
theorem dX2_copy_74 : decode cX2_copy 74 = .ok (.checkcast 50, 3) := dk_192 0 50 (dk_at dksX2_copy_3 5 rfl rfl)
theorem dX2_copy_77 : decode cX2_copy 77 = .ok (.astore_n 3, 1) := dk_78 (dk_at dksX2_copy_3 8 rfl rfl)
theorem dX2_copy_78 : decode cX2_copy 78 = .ok (.aload_n 1, 1) := dk_43 (dk_at dksX2_copy_3 9 rfl rfl)
theorem dX2_copy_79 : decode cX2_copy 79 = .ok (.getfield 18, 3) := dk_180 0 18 (dk_at dksX2_copy_3 10 rfl rfl)
theorem dX2_copy_82 : decode cX2_copy 82 = .ok (.new 50, 3) := dk_187 0 50 (dk_at dksX2_copy_3 13 rfl rfl)
theorem dX2_copy_85 : decode cX2_copy 85 = .ok (.dup, 1) := dk_89 (dk_at dksX2_copy_3 16 rfl rfl)
theorem dX2_copy_86 : decode cX2_copy 86 = .ok (.aload_n 3, 1) := dk_45 (dk_at dksX2_copy_3 17 rfl rfl)
theorem dX2_copy_87 : decode cX2_copy 87 = .ok (.invokespecial 52, 3) := dk_183 0 52 (dk_at dksX2_copy_3 18 rfl rfl)
theorem dX2_copy_90 : decode cX2_copy 90 = .ok (.invokevirtual 46, 3) := dk_182 0 46 (dk_at dksX2_copy_3 21 rfl rfl)
theorem dX2_copy_93 : decode cX2_copy 93 = .ok (.istore 4, 2) := dk_54 4 (dk_at dksX2_copy_4 0 rfl rfl)
theorem dX2_copy_95 : decode cX2_copy 95 = .ok (.goto (-36), 3) := dk_167 255 220 (dk_at dksX2_copy_4 2 rfl rfl)
theorem dX2_copy_98 : decode cX2_copy 98 = .ok (.aload_n 0, 1) := dk_42 (dk_at dksX2_copy_4 5 rfl rfl)
theorem dX2_copy_99 : decode cX2_copy 99 = .ok (.getfield 21, 3) := dk_180 0 21 (dk_at dksX2_copy_4 6 rfl rfl)
theorem dX2_copy_102 : decode cX2_copy 102 = .ok (.iconst 0, 1) := dk_3 (dk_at dksX2_copy_4 9 rfl rfl)
theorem dX2_copy_103 : decode cX2_copy 103 = .ok (.aload_n 1, 1) := dk_43 (dk_at dksX2_copy_4 10 rfl rfl)
theorem dX2_copy_104 : decode cX2_copy 104 = .ok (.getfield 21, 3) := dk_180 0 21 (dk_at dksX2_copy_4 11 rfl rfl)
theorem dX2_copy_107 : decode cX2_copy 107 = .ok (.iconst 0, 1) := dk_3 (dk_at dksX2_copy_4 14 rfl rfl)
theorem dX2_copy_108 : decode cX2_copy 108 = .ok (.iconst 3, 1) := dk_6 (dk_at dksX2_copy_4 15 rfl rfl)
theorem dX2_copy_109 : decode cX2_copy 109 = .ok (.invokestatic 55, 3) := dk_184 0 55 (dk_at dksX2_copy_4 16 rfl rfl)
theorem dX2_copy_112 : decode cX2_copy 112 = .ok (.aload_n 1, 1) := dk_43 (dk_at dksX2_copy_4 19 rfl rfl)
theorem dX2_copy_113 : decode cX2_copy 113 = .ok (.aload_n 0, 1) := dk_42 (dk_at dksX2_copy_4 20 rfl rfl)
theorem dX2_copy_114 : decode cX2_copy 114 = .ok (.getfield 61, 3) := dk_180 0 61 (dk_at dksX2_copy_4 21 rfl rfl)
theorem dX2_copy_117 : decode cX2_copy 117 = .ok (.putfield 61, 3) := dk_181 0 61 (dk_at dksX2_copy_5 0 rfl rfl)
theorem dX2_copy_120 : decode cX2_copy 120 = .ok (.aload_n 1, 1) := dk_43 (dk_at dksX2_copy_5 3 rfl rfl)
theorem dX2_copy_121 : decode cX2_copy 121 = .ok (.aload_n 0, 1) := dk_42 (dk_at dksX2_copy_5 4 rfl rfl)
theorem dX2_copy_122 : decode cX2_copy 122 = .ok (.getfield 65, 3) := dk_180 0 65 (dk_at dksX2_copy_5 5 rfl rfl)
theorem dX2_copy_125 : decode cX2_copy 125 = .ok (.putfield 65, 3) := dk_181 0 65 (dk_at dksX2_copy_5 8 rfl rfl)
theorem dX2_copy_128 : decode cX2_copy 128 = .ok (.aload_n 1, 1) := dk_43 (dk_at dksX2_copy_5 11 rfl rfl)
theorem dX2_copy_129 : decode cX2_copy 129 = .ok (.aload_n 0, 1) := dk_42 (dk_at dksX2_copy_5 12 rfl rfl)
theorem dX2_copy_130 : decode cX2_copy 130 = .ok (.getfield 68, 3) := dk_180 0 68 (dk_at dksX2_copy_5 13 rfl rfl)
theorem dX2_copy_133 : decode cX2_copy 133 = .ok (.putfield 68, 3) := dk_181 0 68 (dk_at dksX2_copy_5 16 rfl rfl)
theorem dX2_copy_136 : decode cX2_copy 136 = .ok (.aload_n 1, 1) := dk_43 (dk_at dksX2_copy_5 19 rfl rfl)
theorem dX2_copy_137 : decode cX2_copy 137 = .ok (.aload_n 0, 1) := dk_42 (dk_at dksX2_copy_5 20 rfl rfl)
theorem dX2_copy_138 : decode cX2_copy 138 = .ok (.getfield 71, 3) := dk_180 0 71 (dk_at dksX2_copy_5 21 rfl rfl)
theorem dX2_copy_141 : decode cX2_copy 141 = .ok (.putfield 71, 3) := dk_181 0 71 (dk_at dksX2_copy_6 0 rfl rfl)
theorem dX2_copy_144 : decode cX2_copy 144 = .ok (.aload_n 1, 1) := dk_43 (dk_at dksX2_copy_6 3 rfl rfl)
theorem dX2_copy_145 : decode cX2_copy 145 = .ok (.areturn, 1) := dk_176 (dk_at dksX2_copy_6 4 rfl rfl)
abbrev cX2_makeRound : ByteArray := prog_2_method_22_code
def yX2_makeRound : MethodName := ⟨RX2, "makeRound", "()I"⟩
def dkwX2_makeRound_12 : List UInt8 := [167, 255, 209, 28, 172]
abbrev dktX2_makeRound_12 : List UInt8 := dkwX2_makeRound_12 ++ []
def dkwX2_makeRound_11 : List UInt8 := [43, 29, 182, 0, 95, 192, 0, 101, 182, 0, 117, 153, 0, 7, 3, 167, 0, 4, 4, 96, 61, 132, 3, 1]
abbrev dktX2_makeRound_11 : List UInt8 := dkwX2_makeRound_11 ++ dktX2_makeRound_12
def dkwX2_makeRound_10 : List UInt8 := [62, 29, 42, 180, 0, 18, 182, 0, 79, 162, 0, 42, 28, 42, 180, 0, 18, 29, 182, 0, 95, 192, 0, 50]
abbrev dktX2_makeRound_10 : List UInt8 := dkwX2_makeRound_10 ++ dktX2_makeRound_11
def dkwX2_makeRound_9 : List UInt8 := [4, 96, 181, 0, 65, 132, 2, 1, 167, 255, 187, 42, 89, 180, 0, 61, 4, 96, 181, 0, 61, 3, 61, 3]
abbrev dktX2_makeRound_9 : List UInt8 := dkwX2_makeRound_9 ++ dktX2_makeRound_10
def dkwX2_makeRound_8 : List UInt8 := [28, 182, 0, 175, 42, 180, 0, 18, 28, 182, 0, 95, 192, 0, 50, 45, 182, 0, 169, 42, 89, 180, 0, 65]
abbrev dktX2_makeRound_8 : List UInt8 := dkwX2_makeRound_8 ++ dktX2_makeRound_9
def dkwX2_makeRound_7 : List UInt8 := [182, 0, 155, 182, 0, 179, 153, 0, 10, 42, 182, 0, 186, 167, 0, 4, 1, 78, 45, 198, 0, 34, 42, 45]
abbrev dktX2_makeRound_7 : List UInt8 := dkwX2_makeRound_7 ++ dktX2_makeRound_8
def dkwX2_makeRound_6 : List UInt8 := [182, 0, 169, 132, 2, 1, 167, 255, 209, 3, 61, 28, 42, 180, 0, 18, 182, 0, 79, 162, 0, 64, 42, 28]
abbrev dktX2_makeRound_6 : List UInt8 := dkwX2_makeRound_6 ++ dktX2_makeRound_7
def dkwX2_makeRound_5 : List UInt8 := [154, 0, 25, 42, 180, 0, 18, 28, 182, 0, 95, 192, 0, 50, 42, 28, 182, 0, 155, 182, 0, 182]
abbrev dktX2_makeRound_5 : List UInt8 := dkwX2_makeRound_5 ++ dktX2_makeRound_6
def dkwX2_makeRound_4 : List UInt8 := [167, 255, 227, 3, 61, 28, 42, 180, 0, 18, 182, 0, 79, 162, 0, 42, 42, 28, 182, 0, 155, 182, 0, 179]
abbrev dktX2_makeRound_4 : List UInt8 := dkwX2_makeRound_4 ++ dktX2_makeRound_5
def dkwX2_makeRound_3 : List UInt8 := [153, 0, 26, 44, 185, 0, 36, 1, 0, 192, 0, 40, 78, 42, 45, 42, 45, 182, 0, 111, 182, 0, 175]
abbrev dktX2_makeRound_3 : List UInt8 := dkwX2_makeRound_3 ++ dktX2_makeRound_4
def dkwX2_makeRound_2 : List UInt8 := [182, 0, 46, 54, 4, 167, 255, 223, 42, 180, 0, 12, 182, 0, 26, 77, 44, 185, 0, 30, 1, 0]
abbrev dktX2_makeRound_2 : List UInt8 := dkwX2_makeRound_2 ++ dktX2_makeRound_3
def dkwX2_makeRound_1 : List UInt8 := [153, 0, 30, 44, 185, 0, 36, 1, 0, 192, 0, 50, 78, 43, 187, 0, 50, 89, 45, 183, 0, 52]
abbrev dktX2_makeRound_1 : List UInt8 := dkwX2_makeRound_1 ++ dktX2_makeRound_2
def dkwX2_makeRound_0 : List UInt8 := [187, 0, 9, 89, 183, 0, 11, 76, 42, 180, 0, 18, 182, 0, 26, 77, 44, 185, 0, 30, 1, 0]
abbrev dktX2_makeRound_0 : List UInt8 := dkwX2_makeRound_0 ++ dktX2_makeRound_1
theorem dksX2_makeRound_0 : cX2_makeRound.data.toList.drop 0 = dktX2_makeRound_0 := by decide +kernel
theorem dksX2_makeRound_1 : cX2_makeRound.data.toList.drop 22 = dktX2_makeRound_1 := dk_seg dksX2_makeRound_0 22 rfl rfl
theorem dksX2_makeRound_2 : cX2_makeRound.data.toList.drop 44 = dktX2_makeRound_2 := dk_seg dksX2_makeRound_1 22 rfl rfl
theorem dksX2_makeRound_3 : cX2_makeRound.data.toList.drop 66 = dktX2_makeRound_3 := dk_seg dksX2_makeRound_2 22 rfl rfl
theorem dksX2_makeRound_4 : cX2_makeRound.data.toList.drop 89 = dktX2_makeRound_4 := dk_seg dksX2_makeRound_3 23 rfl rfl
theorem dksX2_makeRound_5 : cX2_makeRound.data.toList.drop 113 = dktX2_makeRound_5 := dk_seg dksX2_makeRound_4 24 rfl rfl
theorem dksX2_makeRound_6 : cX2_makeRound.data.toList.drop 135 = dktX2_makeRound_6 := dk_seg dksX2_makeRound_5 22 rfl rfl
theorem dksX2_makeRound_7 : cX2_makeRound.data.toList.drop 159 = dktX2_makeRound_7 := dk_seg dksX2_makeRound_6 24 rfl rfl
theorem dksX2_makeRound_8 : cX2_makeRound.data.toList.drop 183 = dktX2_makeRound_8 := dk_seg dksX2_makeRound_7 24 rfl rfl
theorem dksX2_makeRound_9 : cX2_makeRound.data.toList.drop 207 = dktX2_makeRound_9 := dk_seg dksX2_makeRound_8 24 rfl rfl
theorem dksX2_makeRound_10 : cX2_makeRound.data.toList.drop 231 = dktX2_makeRound_10 := dk_seg dksX2_makeRound_9 24 rfl rfl
theorem dksX2_makeRound_11 : cX2_makeRound.data.toList.drop 255 = dktX2_makeRound_11 := dk_seg dksX2_makeRound_10 24 rfl rfl
theorem dksX2_makeRound_12 : cX2_makeRound.data.toList.drop 279 = dktX2_makeRound_12 := dk_seg dksX2_makeRound_11 24 rfl rfl
theorem dX2_makeRound_0 : decode cX2_makeRound 0 = .ok (.new 9, 3) := dk_187 0 9 (dk_at dksX2_makeRound_0 0 rfl rfl)
theorem dX2_makeRound_3 : decode cX2_makeRound 3 = .ok (.dup, 1) := dk_89 (dk_at dksX2_makeRound_0 3 rfl rfl)
theorem dX2_makeRound_4 : decode cX2_makeRound 4 = .ok (.invokespecial 11, 3) := dk_183 0 11 (dk_at dksX2_makeRound_0 4 rfl rfl)
theorem dX2_makeRound_7 : decode cX2_makeRound 7 = .ok (.astore_n 1, 1) := dk_76 (dk_at dksX2_makeRound_0 7 rfl rfl)
theorem dX2_makeRound_8 : decode cX2_makeRound 8 = .ok (.aload_n 0, 1) := dk_42 (dk_at dksX2_makeRound_0 8 rfl rfl)
theorem dX2_makeRound_9 : decode cX2_makeRound 9 = .ok (.getfield 18, 3) := dk_180 0 18 (dk_at dksX2_makeRound_0 9 rfl rfl)
theorem dX2_makeRound_12 : decode cX2_makeRound 12 = .ok (.invokevirtual 26, 3) := dk_182 0 26 (dk_at dksX2_makeRound_0 12 rfl rfl)
theorem dX2_makeRound_15 : decode cX2_makeRound 15 = .ok (.astore_n 2, 1) := dk_77 (dk_at dksX2_makeRound_0 15 rfl rfl)
theorem dX2_makeRound_16 : decode cX2_makeRound 16 = .ok (.aload_n 2, 1) := dk_44 (dk_at dksX2_makeRound_0 16 rfl rfl)
theorem dX2_makeRound_17 : decode cX2_makeRound 17 = .ok (.invokeinterface 30 1, 5) := by decide +kernel
theorem dX2_makeRound_22 : decode cX2_makeRound 22 = .ok (.ifCond .eq 30, 3) := dk_153 0 30 (dk_at dksX2_makeRound_1 0 rfl rfl)
theorem dX2_makeRound_25 : decode cX2_makeRound 25 = .ok (.aload_n 2, 1) := dk_44 (dk_at dksX2_makeRound_1 3 rfl rfl)
theorem dX2_makeRound_26 : decode cX2_makeRound 26 = .ok (.invokeinterface 36 1, 5) := by decide +kernel
theorem dX2_makeRound_31 : decode cX2_makeRound 31 = .ok (.checkcast 50, 3) := dk_192 0 50 (dk_at dksX2_makeRound_1 9 rfl rfl)
theorem dX2_makeRound_34 : decode cX2_makeRound 34 = .ok (.astore_n 3, 1) := dk_78 (dk_at dksX2_makeRound_1 12 rfl rfl)
theorem dX2_makeRound_35 : decode cX2_makeRound 35 = .ok (.aload_n 1, 1) := dk_43 (dk_at dksX2_makeRound_1 13 rfl rfl)
theorem dX2_makeRound_36 : decode cX2_makeRound 36 = .ok (.new 50, 3) := dk_187 0 50 (dk_at dksX2_makeRound_1 14 rfl rfl)
theorem dX2_makeRound_39 : decode cX2_makeRound 39 = .ok (.dup, 1) := dk_89 (dk_at dksX2_makeRound_1 17 rfl rfl)
theorem dX2_makeRound_40 : decode cX2_makeRound 40 = .ok (.aload_n 3, 1) := dk_45 (dk_at dksX2_makeRound_1 18 rfl rfl)
theorem dX2_makeRound_41 : decode cX2_makeRound 41 = .ok (.invokespecial 52, 3) := dk_183 0 52 (dk_at dksX2_makeRound_1 19 rfl rfl)
theorem dX2_makeRound_44 : decode cX2_makeRound 44 = .ok (.invokevirtual 46, 3) := dk_182 0 46 (dk_at dksX2_makeRound_2 0 rfl rfl)
theorem dX2_makeRound_47 : decode cX2_makeRound 47 = .ok (.istore 4, 2) := dk_54 4 (dk_at dksX2_makeRound_2 3 rfl rfl)
theorem dX2_makeRound_49 : decode cX2_makeRound 49 = .ok (.goto (-33), 3) := dk_167 255 223 (dk_at dksX2_makeRound_2 5 rfl rfl)
theorem dX2_makeRound_52 : decode cX2_makeRound 52 = .ok (.aload_n 0, 1) := dk_42 (dk_at dksX2_makeRound_2 8 rfl rfl)
theorem dX2_makeRound_53 : decode cX2_makeRound 53 = .ok (.getfield 12, 3) := dk_180 0 12 (dk_at dksX2_makeRound_2 9 rfl rfl)
theorem dX2_makeRound_56 : decode cX2_makeRound 56 = .ok (.invokevirtual 26, 3) := dk_182 0 26 (dk_at dksX2_makeRound_2 12 rfl rfl)
theorem dX2_makeRound_59 : decode cX2_makeRound 59 = .ok (.astore_n 2, 1) := dk_77 (dk_at dksX2_makeRound_2 15 rfl rfl)
theorem dX2_makeRound_60 : decode cX2_makeRound 60 = .ok (.aload_n 2, 1) := dk_44 (dk_at dksX2_makeRound_2 16 rfl rfl)
theorem dX2_makeRound_61 : decode cX2_makeRound 61 = .ok (.invokeinterface 30 1, 5) := by decide +kernel
theorem dX2_makeRound_66 : decode cX2_makeRound 66 = .ok (.ifCond .eq 26, 3) := dk_153 0 26 (dk_at dksX2_makeRound_3 0 rfl rfl)
theorem dX2_makeRound_69 : decode cX2_makeRound 69 = .ok (.aload_n 2, 1) := dk_44 (dk_at dksX2_makeRound_3 3 rfl rfl)
theorem dX2_makeRound_70 : decode cX2_makeRound 70 = .ok (.invokeinterface 36 1, 5) := by decide +kernel
theorem dX2_makeRound_75 : decode cX2_makeRound 75 = .ok (.checkcast 40, 3) := dk_192 0 40 (dk_at dksX2_makeRound_3 9 rfl rfl)
theorem dX2_makeRound_78 : decode cX2_makeRound 78 = .ok (.astore_n 3, 1) := dk_78 (dk_at dksX2_makeRound_3 12 rfl rfl)
theorem dX2_makeRound_79 : decode cX2_makeRound 79 = .ok (.aload_n 0, 1) := dk_42 (dk_at dksX2_makeRound_3 13 rfl rfl)
theorem dX2_makeRound_80 : decode cX2_makeRound 80 = .ok (.aload_n 3, 1) := dk_45 (dk_at dksX2_makeRound_3 14 rfl rfl)
theorem dX2_makeRound_81 : decode cX2_makeRound 81 = .ok (.aload_n 0, 1) := dk_42 (dk_at dksX2_makeRound_3 15 rfl rfl)
theorem dX2_makeRound_82 : decode cX2_makeRound 82 = .ok (.aload_n 3, 1) := dk_45 (dk_at dksX2_makeRound_3 16 rfl rfl)
theorem dX2_makeRound_83 : decode cX2_makeRound 83 = .ok (.invokevirtual 111, 3) := dk_182 0 111 (dk_at dksX2_makeRound_3 17 rfl rfl)
theorem dX2_makeRound_86 : decode cX2_makeRound 86 = .ok (.invokevirtual 175, 3) := dk_182 0 175 (dk_at dksX2_makeRound_3 20 rfl rfl)
theorem dX2_makeRound_89 : decode cX2_makeRound 89 = .ok (.goto (-29), 3) := dk_167 255 227 (dk_at dksX2_makeRound_4 0 rfl rfl)
theorem dX2_makeRound_92 : decode cX2_makeRound 92 = .ok (.iconst 0, 1) := dk_3 (dk_at dksX2_makeRound_4 3 rfl rfl)
theorem dX2_makeRound_93 : decode cX2_makeRound 93 = .ok (.istore_n 2, 1) := dk_61 (dk_at dksX2_makeRound_4 4 rfl rfl)
theorem dX2_makeRound_94 : decode cX2_makeRound 94 = .ok (.iload_n 2, 1) := dk_28 (dk_at dksX2_makeRound_4 5 rfl rfl)
theorem dX2_makeRound_95 : decode cX2_makeRound 95 = .ok (.aload_n 0, 1) := dk_42 (dk_at dksX2_makeRound_4 6 rfl rfl)
theorem dX2_makeRound_96 : decode cX2_makeRound 96 = .ok (.getfield 18, 3) := dk_180 0 18 (dk_at dksX2_makeRound_4 7 rfl rfl)
theorem dX2_makeRound_99 : decode cX2_makeRound 99 = .ok (.invokevirtual 79, 3) := dk_182 0 79 (dk_at dksX2_makeRound_4 10 rfl rfl)
theorem dX2_makeRound_102 : decode cX2_makeRound 102 = .ok (.if_icmp .ge 42, 3) := dk_162 0 42 (dk_at dksX2_makeRound_4 13 rfl rfl)
theorem dX2_makeRound_105 : decode cX2_makeRound 105 = .ok (.aload_n 0, 1) := dk_42 (dk_at dksX2_makeRound_4 16 rfl rfl)
theorem dX2_makeRound_106 : decode cX2_makeRound 106 = .ok (.iload_n 2, 1) := dk_28 (dk_at dksX2_makeRound_4 17 rfl rfl)
theorem dX2_makeRound_107 : decode cX2_makeRound 107 = .ok (.invokevirtual 155, 3) := dk_182 0 155 (dk_at dksX2_makeRound_4 18 rfl rfl)
theorem dX2_makeRound_110 : decode cX2_makeRound 110 = .ok (.invokevirtual 179, 3) := dk_182 0 179 (dk_at dksX2_makeRound_4 21 rfl rfl)
theorem dX2_makeRound_113 : decode cX2_makeRound 113 = .ok (.ifCond .ne 25, 3) := dk_154 0 25 (dk_at dksX2_makeRound_5 0 rfl rfl)
theorem dX2_makeRound_116 : decode cX2_makeRound 116 = .ok (.aload_n 0, 1) := dk_42 (dk_at dksX2_makeRound_5 3 rfl rfl)
theorem dX2_makeRound_117 : decode cX2_makeRound 117 = .ok (.getfield 18, 3) := dk_180 0 18 (dk_at dksX2_makeRound_5 4 rfl rfl)
theorem dX2_makeRound_120 : decode cX2_makeRound 120 = .ok (.iload_n 2, 1) := dk_28 (dk_at dksX2_makeRound_5 7 rfl rfl)
theorem dX2_makeRound_121 : decode cX2_makeRound 121 = .ok (.invokevirtual 95, 3) := dk_182 0 95 (dk_at dksX2_makeRound_5 8 rfl rfl)
theorem dX2_makeRound_124 : decode cX2_makeRound 124 = .ok (.checkcast 50, 3) := dk_192 0 50 (dk_at dksX2_makeRound_5 11 rfl rfl)
theorem dX2_makeRound_127 : decode cX2_makeRound 127 = .ok (.aload_n 0, 1) := dk_42 (dk_at dksX2_makeRound_5 14 rfl rfl)
theorem dX2_makeRound_128 : decode cX2_makeRound 128 = .ok (.iload_n 2, 1) := dk_28 (dk_at dksX2_makeRound_5 15 rfl rfl)
theorem dX2_makeRound_129 : decode cX2_makeRound 129 = .ok (.invokevirtual 155, 3) := dk_182 0 155 (dk_at dksX2_makeRound_5 16 rfl rfl)
theorem dX2_makeRound_132 : decode cX2_makeRound 132 = .ok (.invokevirtual 182, 3) := dk_182 0 182 (dk_at dksX2_makeRound_5 19 rfl rfl)
theorem dX2_makeRound_135 : decode cX2_makeRound 135 = .ok (.invokevirtual 169, 3) := dk_182 0 169 (dk_at dksX2_makeRound_6 0 rfl rfl)
theorem dX2_makeRound_138 : decode cX2_makeRound 138 = .ok (.iinc 2 1, 3) := dk_132 2 1 (dk_at dksX2_makeRound_6 3 rfl rfl)
theorem dX2_makeRound_141 : decode cX2_makeRound 141 = .ok (.goto (-47), 3) := dk_167 255 209 (dk_at dksX2_makeRound_6 6 rfl rfl)
theorem dX2_makeRound_144 : decode cX2_makeRound 144 = .ok (.iconst 0, 1) := dk_3 (dk_at dksX2_makeRound_6 9 rfl rfl)
theorem dX2_makeRound_145 : decode cX2_makeRound 145 = .ok (.istore_n 2, 1) := dk_61 (dk_at dksX2_makeRound_6 10 rfl rfl)
theorem dX2_makeRound_146 : decode cX2_makeRound 146 = .ok (.iload_n 2, 1) := dk_28 (dk_at dksX2_makeRound_6 11 rfl rfl)
theorem dX2_makeRound_147 : decode cX2_makeRound 147 = .ok (.aload_n 0, 1) := dk_42 (dk_at dksX2_makeRound_6 12 rfl rfl)
theorem dX2_makeRound_148 : decode cX2_makeRound 148 = .ok (.getfield 18, 3) := dk_180 0 18 (dk_at dksX2_makeRound_6 13 rfl rfl)
theorem dX2_makeRound_151 : decode cX2_makeRound 151 = .ok (.invokevirtual 79, 3) := dk_182 0 79 (dk_at dksX2_makeRound_6 16 rfl rfl)
theorem dX2_makeRound_154 : decode cX2_makeRound 154 = .ok (.if_icmp .ge 64, 3) := dk_162 0 64 (dk_at dksX2_makeRound_6 19 rfl rfl)
theorem dX2_makeRound_157 : decode cX2_makeRound 157 = .ok (.aload_n 0, 1) := dk_42 (dk_at dksX2_makeRound_6 22 rfl rfl)
theorem dX2_makeRound_158 : decode cX2_makeRound 158 = .ok (.iload_n 2, 1) := dk_28 (dk_at dksX2_makeRound_6 23 rfl rfl)
theorem dX2_makeRound_159 : decode cX2_makeRound 159 = .ok (.invokevirtual 155, 3) := dk_182 0 155 (dk_at dksX2_makeRound_7 0 rfl rfl)
theorem dX2_makeRound_162 : decode cX2_makeRound 162 = .ok (.invokevirtual 179, 3) := dk_182 0 179 (dk_at dksX2_makeRound_7 3 rfl rfl)
theorem dX2_makeRound_165 : decode cX2_makeRound 165 = .ok (.ifCond .eq 10, 3) := dk_153 0 10 (dk_at dksX2_makeRound_7 6 rfl rfl)
theorem dX2_makeRound_168 : decode cX2_makeRound 168 = .ok (.aload_n 0, 1) := dk_42 (dk_at dksX2_makeRound_7 9 rfl rfl)
theorem dX2_makeRound_169 : decode cX2_makeRound 169 = .ok (.invokevirtual 186, 3) := dk_182 0 186 (dk_at dksX2_makeRound_7 10 rfl rfl)
theorem dX2_makeRound_172 : decode cX2_makeRound 172 = .ok (.goto 4, 3) := dk_167 0 4 (dk_at dksX2_makeRound_7 13 rfl rfl)
theorem dX2_makeRound_175 : decode cX2_makeRound 175 = .ok (.aconst_null, 1) := dk_1 (dk_at dksX2_makeRound_7 16 rfl rfl)
theorem dX2_makeRound_176 : decode cX2_makeRound 176 = .ok (.astore_n 3, 1) := dk_78 (dk_at dksX2_makeRound_7 17 rfl rfl)
theorem dX2_makeRound_177 : decode cX2_makeRound 177 = .ok (.aload_n 3, 1) := dk_45 (dk_at dksX2_makeRound_7 18 rfl rfl)
theorem dX2_makeRound_178 : decode cX2_makeRound 178 = .ok (.ifnull 34, 3) := dk_198 0 34 (dk_at dksX2_makeRound_7 19 rfl rfl)
theorem dX2_makeRound_181 : decode cX2_makeRound 181 = .ok (.aload_n 0, 1) := dk_42 (dk_at dksX2_makeRound_7 22 rfl rfl)
theorem dX2_makeRound_182 : decode cX2_makeRound 182 = .ok (.aload_n 3, 1) := dk_45 (dk_at dksX2_makeRound_7 23 rfl rfl)
theorem dX2_makeRound_183 : decode cX2_makeRound 183 = .ok (.iload_n 2, 1) := dk_28 (dk_at dksX2_makeRound_8 0 rfl rfl)
theorem dX2_makeRound_184 : decode cX2_makeRound 184 = .ok (.invokevirtual 175, 3) := dk_182 0 175 (dk_at dksX2_makeRound_8 1 rfl rfl)
theorem dX2_makeRound_187 : decode cX2_makeRound 187 = .ok (.aload_n 0, 1) := dk_42 (dk_at dksX2_makeRound_8 4 rfl rfl)
theorem dX2_makeRound_188 : decode cX2_makeRound 188 = .ok (.getfield 18, 3) := dk_180 0 18 (dk_at dksX2_makeRound_8 5 rfl rfl)
theorem dX2_makeRound_191 : decode cX2_makeRound 191 = .ok (.iload_n 2, 1) := dk_28 (dk_at dksX2_makeRound_8 8 rfl rfl)
theorem dX2_makeRound_192 : decode cX2_makeRound 192 = .ok (.invokevirtual 95, 3) := dk_182 0 95 (dk_at dksX2_makeRound_8 9 rfl rfl)
theorem dX2_makeRound_195 : decode cX2_makeRound 195 = .ok (.checkcast 50, 3) := dk_192 0 50 (dk_at dksX2_makeRound_8 12 rfl rfl)
theorem dX2_makeRound_198 : decode cX2_makeRound 198 = .ok (.aload_n 3, 1) := dk_45 (dk_at dksX2_makeRound_8 15 rfl rfl)
theorem dX2_makeRound_199 : decode cX2_makeRound 199 = .ok (.invokevirtual 169, 3) := dk_182 0 169 (dk_at dksX2_makeRound_8 16 rfl rfl)
theorem dX2_makeRound_202 : decode cX2_makeRound 202 = .ok (.aload_n 0, 1) := dk_42 (dk_at dksX2_makeRound_8 19 rfl rfl)
theorem dX2_makeRound_203 : decode cX2_makeRound 203 = .ok (.dup, 1) := dk_89 (dk_at dksX2_makeRound_8 20 rfl rfl)
theorem dX2_makeRound_204 : decode cX2_makeRound 204 = .ok (.getfield 65, 3) := dk_180 0 65 (dk_at dksX2_makeRound_8 21 rfl rfl)
theorem dX2_makeRound_207 : decode cX2_makeRound 207 = .ok (.iconst 1, 1) := dk_4 (dk_at dksX2_makeRound_9 0 rfl rfl)
theorem dX2_makeRound_208 : decode cX2_makeRound 208 = .ok (.iadd, 1) := dk_96 (dk_at dksX2_makeRound_9 1 rfl rfl)
theorem dX2_makeRound_209 : decode cX2_makeRound 209 = .ok (.putfield 65, 3) := dk_181 0 65 (dk_at dksX2_makeRound_9 2 rfl rfl)
theorem dX2_makeRound_212 : decode cX2_makeRound 212 = .ok (.iinc 2 1, 3) := dk_132 2 1 (dk_at dksX2_makeRound_9 5 rfl rfl)
theorem dX2_makeRound_215 : decode cX2_makeRound 215 = .ok (.goto (-69), 3) := dk_167 255 187 (dk_at dksX2_makeRound_9 8 rfl rfl)
theorem dX2_makeRound_218 : decode cX2_makeRound 218 = .ok (.aload_n 0, 1) := dk_42 (dk_at dksX2_makeRound_9 11 rfl rfl)
theorem dX2_makeRound_219 : decode cX2_makeRound 219 = .ok (.dup, 1) := dk_89 (dk_at dksX2_makeRound_9 12 rfl rfl)
theorem dX2_makeRound_220 : decode cX2_makeRound 220 = .ok (.getfield 61, 3) := dk_180 0 61 (dk_at dksX2_makeRound_9 13 rfl rfl)
theorem dX2_makeRound_223 : decode cX2_makeRound 223 = .ok (.iconst 1, 1) := dk_4 (dk_at dksX2_makeRound_9 16 rfl rfl)
theorem dX2_makeRound_224 : decode cX2_makeRound 224 = .ok (.iadd, 1) := dk_96 (dk_at dksX2_makeRound_9 17 rfl rfl)
theorem dX2_makeRound_225 : decode cX2_makeRound 225 = .ok (.putfield 61, 3) := dk_181 0 61 (dk_at dksX2_makeRound_9 18 rfl rfl)
theorem dX2_makeRound_228 : decode cX2_makeRound 228 = .ok (.iconst 0, 1) := dk_3 (dk_at dksX2_makeRound_9 21 rfl rfl)
theorem dX2_makeRound_229 : decode cX2_makeRound 229 = .ok (.istore_n 2, 1) := dk_61 (dk_at dksX2_makeRound_9 22 rfl rfl)
theorem dX2_makeRound_230 : decode cX2_makeRound 230 = .ok (.iconst 0, 1) := dk_3 (dk_at dksX2_makeRound_9 23 rfl rfl)
theorem dX2_makeRound_231 : decode cX2_makeRound 231 = .ok (.istore_n 3, 1) := dk_62 (dk_at dksX2_makeRound_10 0 rfl rfl)
theorem dX2_makeRound_232 : decode cX2_makeRound 232 = .ok (.iload_n 3, 1) := dk_29 (dk_at dksX2_makeRound_10 1 rfl rfl)
theorem dX2_makeRound_233 : decode cX2_makeRound 233 = .ok (.aload_n 0, 1) := dk_42 (dk_at dksX2_makeRound_10 2 rfl rfl)
theorem dX2_makeRound_234 : decode cX2_makeRound 234 = .ok (.getfield 18, 3) := dk_180 0 18 (dk_at dksX2_makeRound_10 3 rfl rfl)
theorem dX2_makeRound_237 : decode cX2_makeRound 237 = .ok (.invokevirtual 79, 3) := dk_182 0 79 (dk_at dksX2_makeRound_10 6 rfl rfl)
theorem dX2_makeRound_240 : decode cX2_makeRound 240 = .ok (.if_icmp .ge 42, 3) := dk_162 0 42 (dk_at dksX2_makeRound_10 9 rfl rfl)
theorem dX2_makeRound_243 : decode cX2_makeRound 243 = .ok (.iload_n 2, 1) := dk_28 (dk_at dksX2_makeRound_10 12 rfl rfl)
theorem dX2_makeRound_244 : decode cX2_makeRound 244 = .ok (.aload_n 0, 1) := dk_42 (dk_at dksX2_makeRound_10 13 rfl rfl)
theorem dX2_makeRound_245 : decode cX2_makeRound 245 = .ok (.getfield 18, 3) := dk_180 0 18 (dk_at dksX2_makeRound_10 14 rfl rfl)
theorem dX2_makeRound_248 : decode cX2_makeRound 248 = .ok (.iload_n 3, 1) := dk_29 (dk_at dksX2_makeRound_10 17 rfl rfl)
theorem dX2_makeRound_249 : decode cX2_makeRound 249 = .ok (.invokevirtual 95, 3) := dk_182 0 95 (dk_at dksX2_makeRound_10 18 rfl rfl)
theorem dX2_makeRound_252 : decode cX2_makeRound 252 = .ok (.checkcast 50, 3) := dk_192 0 50 (dk_at dksX2_makeRound_10 21 rfl rfl)
theorem dX2_makeRound_255 : decode cX2_makeRound 255 = .ok (.aload_n 1, 1) := dk_43 (dk_at dksX2_makeRound_11 0 rfl rfl)
theorem dX2_makeRound_256 : decode cX2_makeRound 256 = .ok (.iload_n 3, 1) := dk_29 (dk_at dksX2_makeRound_11 1 rfl rfl)
theorem dX2_makeRound_257 : decode cX2_makeRound 257 = .ok (.invokevirtual 95, 3) := dk_182 0 95 (dk_at dksX2_makeRound_11 2 rfl rfl)
theorem dX2_makeRound_260 : decode cX2_makeRound 260 = .ok (.checkcast 101, 3) := dk_192 0 101 (dk_at dksX2_makeRound_11 5 rfl rfl)
theorem dX2_makeRound_263 : decode cX2_makeRound 263 = .ok (.invokevirtual 117, 3) := dk_182 0 117 (dk_at dksX2_makeRound_11 8 rfl rfl)
theorem dX2_makeRound_266 : decode cX2_makeRound 266 = .ok (.ifCond .eq 7, 3) := dk_153 0 7 (dk_at dksX2_makeRound_11 11 rfl rfl)
theorem dX2_makeRound_269 : decode cX2_makeRound 269 = .ok (.iconst 0, 1) := dk_3 (dk_at dksX2_makeRound_11 14 rfl rfl)
theorem dX2_makeRound_270 : decode cX2_makeRound 270 = .ok (.goto 4, 3) := dk_167 0 4 (dk_at dksX2_makeRound_11 15 rfl rfl)
theorem dX2_makeRound_273 : decode cX2_makeRound 273 = .ok (.iconst 1, 1) := dk_4 (dk_at dksX2_makeRound_11 18 rfl rfl)
theorem dX2_makeRound_274 : decode cX2_makeRound 274 = .ok (.iadd, 1) := dk_96 (dk_at dksX2_makeRound_11 19 rfl rfl)
theorem dX2_makeRound_275 : decode cX2_makeRound 275 = .ok (.istore_n 2, 1) := dk_61 (dk_at dksX2_makeRound_11 20 rfl rfl)
theorem dX2_makeRound_276 : decode cX2_makeRound 276 = .ok (.iinc 3 1, 3) := dk_132 3 1 (dk_at dksX2_makeRound_11 21 rfl rfl)
theorem dX2_makeRound_279 : decode cX2_makeRound 279 = .ok (.goto (-47), 3) := dk_167 255 209 (dk_at dksX2_makeRound_12 0 rfl rfl)
theorem dX2_makeRound_282 : decode cX2_makeRound 282 = .ok (.iload_n 2, 1) := dk_28 (dk_at dksX2_makeRound_12 3 rfl rfl)
theorem dX2_makeRound_283 : decode cX2_makeRound 283 = .ok (.ireturn, 1) := dk_172 (dk_at dksX2_makeRound_12 4 rfl rfl)
abbrev cX2_nearest : ByteArray := prog_2_method_8_code
def yX2_nearest : MethodName := ⟨RX2, "nearest", "(LFlockHuts$Placed;)I"⟩
def dkwX2_nearest_3 : List UInt8 := [167, 0, 4, 28, 61, 132, 3, 1, 167, 255, 182, 28, 172]
abbrev dktX2_nearest_3 : List UInt8 := dkwX2_nearest_3 ++ []
def dkwX2_nearest_2 : List UInt8 := [192, 0, 101, 185, 0, 103, 2, 0, 162, 0, 7, 4, 167, 0, 4, 3, 54, 4, 21, 4, 153, 0, 7, 29]
abbrev dktX2_nearest_2 : List UInt8 := dkwX2_nearest_2 ++ dktX2_nearest_3
def dkwX2_nearest_1 : List UInt8 := [180, 0, 18, 29, 182, 0, 95, 192, 0, 101, 185, 0, 103, 2, 0, 43, 42, 180, 0, 18, 28, 182, 0, 95]
abbrev dktX2_nearest_1 : List UInt8 := dkwX2_nearest_1 ++ dktX2_nearest_2
def dkwX2_nearest_0 : List UInt8 := [2, 61, 3, 62, 29, 42, 180, 0, 18, 182, 0, 79, 162, 0, 69, 28, 2, 159, 0, 40, 43, 42]
abbrev dktX2_nearest_0 : List UInt8 := dkwX2_nearest_0 ++ dktX2_nearest_1
theorem dksX2_nearest_0 : cX2_nearest.data.toList.drop 0 = dktX2_nearest_0 := by decide +kernel
theorem dksX2_nearest_1 : cX2_nearest.data.toList.drop 22 = dktX2_nearest_1 := dk_seg dksX2_nearest_0 22 rfl rfl
theorem dksX2_nearest_2 : cX2_nearest.data.toList.drop 46 = dktX2_nearest_2 := dk_seg dksX2_nearest_1 24 rfl rfl
theorem dksX2_nearest_3 : cX2_nearest.data.toList.drop 70 = dktX2_nearest_3 := dk_seg dksX2_nearest_2 24 rfl rfl
theorem dX2_nearest_0 : decode cX2_nearest 0 = .ok (.iconst (-1), 1) := dk_2 (dk_at dksX2_nearest_0 0 rfl rfl)
theorem dX2_nearest_1 : decode cX2_nearest 1 = .ok (.istore_n 2, 1) := dk_61 (dk_at dksX2_nearest_0 1 rfl rfl)
theorem dX2_nearest_2 : decode cX2_nearest 2 = .ok (.iconst 0, 1) := dk_3 (dk_at dksX2_nearest_0 2 rfl rfl)
theorem dX2_nearest_3 : decode cX2_nearest 3 = .ok (.istore_n 3, 1) := dk_62 (dk_at dksX2_nearest_0 3 rfl rfl)
theorem dX2_nearest_4 : decode cX2_nearest 4 = .ok (.iload_n 3, 1) := dk_29 (dk_at dksX2_nearest_0 4 rfl rfl)
theorem dX2_nearest_5 : decode cX2_nearest 5 = .ok (.aload_n 0, 1) := dk_42 (dk_at dksX2_nearest_0 5 rfl rfl)
theorem dX2_nearest_6 : decode cX2_nearest 6 = .ok (.getfield 18, 3) := dk_180 0 18 (dk_at dksX2_nearest_0 6 rfl rfl)
theorem dX2_nearest_9 : decode cX2_nearest 9 = .ok (.invokevirtual 79, 3) := dk_182 0 79 (dk_at dksX2_nearest_0 9 rfl rfl)
theorem dX2_nearest_12 : decode cX2_nearest 12 = .ok (.if_icmp .ge 69, 3) := dk_162 0 69 (dk_at dksX2_nearest_0 12 rfl rfl)
theorem dX2_nearest_15 : decode cX2_nearest 15 = .ok (.iload_n 2, 1) := dk_28 (dk_at dksX2_nearest_0 15 rfl rfl)
theorem dX2_nearest_16 : decode cX2_nearest 16 = .ok (.iconst (-1), 1) := dk_2 (dk_at dksX2_nearest_0 16 rfl rfl)
theorem dX2_nearest_17 : decode cX2_nearest 17 = .ok (.if_icmp .eq 40, 3) := dk_159 0 40 (dk_at dksX2_nearest_0 17 rfl rfl)
theorem dX2_nearest_20 : decode cX2_nearest 20 = .ok (.aload_n 1, 1) := dk_43 (dk_at dksX2_nearest_0 20 rfl rfl)
theorem dX2_nearest_21 : decode cX2_nearest 21 = .ok (.aload_n 0, 1) := dk_42 (dk_at dksX2_nearest_0 21 rfl rfl)
theorem dX2_nearest_22 : decode cX2_nearest 22 = .ok (.getfield 18, 3) := dk_180 0 18 (dk_at dksX2_nearest_1 0 rfl rfl)
theorem dX2_nearest_25 : decode cX2_nearest 25 = .ok (.iload_n 3, 1) := dk_29 (dk_at dksX2_nearest_1 3 rfl rfl)
theorem dX2_nearest_26 : decode cX2_nearest 26 = .ok (.invokevirtual 95, 3) := dk_182 0 95 (dk_at dksX2_nearest_1 4 rfl rfl)
theorem dX2_nearest_29 : decode cX2_nearest 29 = .ok (.checkcast 101, 3) := dk_192 0 101 (dk_at dksX2_nearest_1 7 rfl rfl)
theorem dX2_nearest_32 : decode cX2_nearest 32 = .ok (.invokeinterface 103 2, 5) := by decide +kernel
theorem dX2_nearest_37 : decode cX2_nearest 37 = .ok (.aload_n 1, 1) := dk_43 (dk_at dksX2_nearest_1 15 rfl rfl)
theorem dX2_nearest_38 : decode cX2_nearest 38 = .ok (.aload_n 0, 1) := dk_42 (dk_at dksX2_nearest_1 16 rfl rfl)
theorem dX2_nearest_39 : decode cX2_nearest 39 = .ok (.getfield 18, 3) := dk_180 0 18 (dk_at dksX2_nearest_1 17 rfl rfl)
theorem dX2_nearest_42 : decode cX2_nearest 42 = .ok (.iload_n 2, 1) := dk_28 (dk_at dksX2_nearest_1 20 rfl rfl)
theorem dX2_nearest_43 : decode cX2_nearest 43 = .ok (.invokevirtual 95, 3) := dk_182 0 95 (dk_at dksX2_nearest_1 21 rfl rfl)
theorem dX2_nearest_46 : decode cX2_nearest 46 = .ok (.checkcast 101, 3) := dk_192 0 101 (dk_at dksX2_nearest_2 0 rfl rfl)
theorem dX2_nearest_49 : decode cX2_nearest 49 = .ok (.invokeinterface 103 2, 5) := by decide +kernel
theorem dX2_nearest_54 : decode cX2_nearest 54 = .ok (.if_icmp .ge 7, 3) := dk_162 0 7 (dk_at dksX2_nearest_2 8 rfl rfl)
theorem dX2_nearest_57 : decode cX2_nearest 57 = .ok (.iconst 1, 1) := dk_4 (dk_at dksX2_nearest_2 11 rfl rfl)
theorem dX2_nearest_58 : decode cX2_nearest 58 = .ok (.goto 4, 3) := dk_167 0 4 (dk_at dksX2_nearest_2 12 rfl rfl)
theorem dX2_nearest_61 : decode cX2_nearest 61 = .ok (.iconst 0, 1) := dk_3 (dk_at dksX2_nearest_2 15 rfl rfl)
theorem dX2_nearest_62 : decode cX2_nearest 62 = .ok (.istore 4, 2) := dk_54 4 (dk_at dksX2_nearest_2 16 rfl rfl)
theorem dX2_nearest_64 : decode cX2_nearest 64 = .ok (.iload 4, 2) := dk_21 4 (dk_at dksX2_nearest_2 18 rfl rfl)
theorem dX2_nearest_66 : decode cX2_nearest 66 = .ok (.ifCond .eq 7, 3) := dk_153 0 7 (dk_at dksX2_nearest_2 20 rfl rfl)
theorem dX2_nearest_69 : decode cX2_nearest 69 = .ok (.iload_n 3, 1) := dk_29 (dk_at dksX2_nearest_2 23 rfl rfl)
theorem dX2_nearest_70 : decode cX2_nearest 70 = .ok (.goto 4, 3) := dk_167 0 4 (dk_at dksX2_nearest_3 0 rfl rfl)
theorem dX2_nearest_73 : decode cX2_nearest 73 = .ok (.iload_n 2, 1) := dk_28 (dk_at dksX2_nearest_3 3 rfl rfl)
theorem dX2_nearest_74 : decode cX2_nearest 74 = .ok (.istore_n 2, 1) := dk_61 (dk_at dksX2_nearest_3 4 rfl rfl)
theorem dX2_nearest_75 : decode cX2_nearest 75 = .ok (.iinc 3 1, 3) := dk_132 3 1 (dk_at dksX2_nearest_3 5 rfl rfl)
theorem dX2_nearest_78 : decode cX2_nearest 78 = .ok (.goto (-74), 3) := dk_167 255 182 (dk_at dksX2_nearest_3 8 rfl rfl)
theorem dX2_nearest_81 : decode cX2_nearest 81 = .ok (.iload_n 2, 1) := dk_28 (dk_at dksX2_nearest_3 11 rfl rfl)
theorem dX2_nearest_82 : decode cX2_nearest 82 = .ok (.ireturn, 1) := dk_172 (dk_at dksX2_nearest_3 12 rfl rfl)
abbrev cX2_belong : ByteArray := prog_2_method_20_code
def yX2_belong : MethodName := ⟨RX2, "belong", "(LFlockHuts$Sheep;I)V"⟩
def dkwX2_belong_1 : List UInt8 := [181, 0, 107, 177]
abbrev dktX2_belong_1 : List UInt8 := dkwX2_belong_1 ++ []
def dkwX2_belong_0 : List UInt8 := [42, 89, 180, 0, 71, 43, 180, 0, 107, 28, 160, 0, 7, 3, 167, 0, 4, 4, 96, 181, 0, 71, 43, 28]
abbrev dktX2_belong_0 : List UInt8 := dkwX2_belong_0 ++ dktX2_belong_1
theorem dksX2_belong_0 : cX2_belong.data.toList.drop 0 = dktX2_belong_0 := by decide +kernel
theorem dksX2_belong_1 : cX2_belong.data.toList.drop 24 = dktX2_belong_1 := dk_seg dksX2_belong_0 24 rfl rfl
theorem dX2_belong_0 : decode cX2_belong 0 = .ok (.aload_n 0, 1) := dk_42 (dk_at dksX2_belong_0 0 rfl rfl)
theorem dX2_belong_1 : decode cX2_belong 1 = .ok (.dup, 1) := dk_89 (dk_at dksX2_belong_0 1 rfl rfl)
theorem dX2_belong_2 : decode cX2_belong 2 = .ok (.getfield 71, 3) := dk_180 0 71 (dk_at dksX2_belong_0 2 rfl rfl)
theorem dX2_belong_5 : decode cX2_belong 5 = .ok (.aload_n 1, 1) := dk_43 (dk_at dksX2_belong_0 5 rfl rfl)
theorem dX2_belong_6 : decode cX2_belong 6 = .ok (.getfield 107, 3) := dk_180 0 107 (dk_at dksX2_belong_0 6 rfl rfl)
theorem dX2_belong_9 : decode cX2_belong 9 = .ok (.iload_n 2, 1) := dk_28 (dk_at dksX2_belong_0 9 rfl rfl)
theorem dX2_belong_10 : decode cX2_belong 10 = .ok (.if_icmp .ne 7, 3) := dk_160 0 7 (dk_at dksX2_belong_0 10 rfl rfl)
theorem dX2_belong_13 : decode cX2_belong 13 = .ok (.iconst 0, 1) := dk_3 (dk_at dksX2_belong_0 13 rfl rfl)
theorem dX2_belong_14 : decode cX2_belong 14 = .ok (.goto 4, 3) := dk_167 0 4 (dk_at dksX2_belong_0 14 rfl rfl)
theorem dX2_belong_17 : decode cX2_belong 17 = .ok (.iconst 1, 1) := dk_4 (dk_at dksX2_belong_0 17 rfl rfl)
theorem dX2_belong_18 : decode cX2_belong 18 = .ok (.iadd, 1) := dk_96 (dk_at dksX2_belong_0 18 rfl rfl)
theorem dX2_belong_19 : decode cX2_belong 19 = .ok (.putfield 71, 3) := dk_181 0 71 (dk_at dksX2_belong_0 19 rfl rfl)
theorem dX2_belong_22 : decode cX2_belong 22 = .ok (.aload_n 1, 1) := dk_43 (dk_at dksX2_belong_0 22 rfl rfl)
theorem dX2_belong_23 : decode cX2_belong 23 = .ok (.iload_n 2, 1) := dk_28 (dk_at dksX2_belong_0 23 rfl rfl)
theorem dX2_belong_24 : decode cX2_belong 24 = .ok (.putfield 107, 3) := dk_181 0 107 (dk_at dksX2_belong_1 0 rfl rfl)
theorem dX2_belong_27 : decode cX2_belong 27 = .ok (.return_, 1) := dk_177 (dk_at dksX2_belong_1 3 rfl rfl)
abbrev cX2_flock : ByteArray := prog_2_method_3_code
def yX2_flock : MethodName := ⟨RX2, "flock", "(I)LFlockHuts$Field$Flock;"⟩
def dkwX2_flock_0 : List UInt8 := [187, 0, 74, 89, 42, 27, 183, 0, 76, 176]
abbrev dktX2_flock_0 : List UInt8 := dkwX2_flock_0 ++ []
theorem dksX2_flock_0 : cX2_flock.data.toList.drop 0 = dktX2_flock_0 := by decide +kernel
theorem dX2_flock_0 : decode cX2_flock 0 = .ok (.new 74, 3) := dk_187 0 74 (dk_at dksX2_flock_0 0 rfl rfl)
theorem dX2_flock_3 : decode cX2_flock 3 = .ok (.dup, 1) := dk_89 (dk_at dksX2_flock_0 3 rfl rfl)
theorem dX2_flock_4 : decode cX2_flock 4 = .ok (.aload_n 0, 1) := dk_42 (dk_at dksX2_flock_0 4 rfl rfl)
theorem dX2_flock_5 : decode cX2_flock 5 = .ok (.iload_n 1, 1) := dk_27 (dk_at dksX2_flock_0 5 rfl rfl)
theorem dX2_flock_6 : decode cX2_flock 6 = .ok (.invokespecial 76, 3) := dk_183 0 76 (dk_at dksX2_flock_0 6 rfl rfl)
theorem dX2_flock_9 : decode cX2_flock 9 = .ok (.areturn, 1) := dk_176 (dk_at dksX2_flock_0 9 rfl rfl)
abbrev cX2_lost : ByteArray := prog_2_method_21_code
def yX2_lost : MethodName := ⟨RX2, "lost", "()LFlockHuts$Sheep;"⟩
def dkwX2_lost_3 : List UInt8 := [167, 0, 4, 43, 76, 167, 255, 195, 43, 176]
abbrev dktX2_lost_3 : List UInt8 := dkwX2_lost_3 ++ []
def dkwX2_lost_2 : List UInt8 := [158, 0, 26, 43, 198, 0, 18, 21, 4, 43, 180, 0, 172, 42, 43, 182, 0, 114, 104, 164, 0, 7, 45]
abbrev dktX2_lost_2 : List UInt8 := dkwX2_lost_2 ++ dktX2_lost_3
def dkwX2_lost_1 : List UInt8 := [185, 0, 36, 1, 0, 192, 0, 40, 78, 45, 180, 0, 172, 42, 45, 182, 0, 114, 104, 54, 4, 21, 4]
abbrev dktX2_lost_1 : List UInt8 := dkwX2_lost_1 ++ dktX2_lost_2
def dkwX2_lost_0 : List UInt8 := [1, 76, 42, 180, 0, 12, 182, 0, 26, 77, 44, 185, 0, 30, 1, 0, 153, 0, 58, 44]
abbrev dktX2_lost_0 : List UInt8 := dkwX2_lost_0 ++ dktX2_lost_1
theorem dksX2_lost_0 : cX2_lost.data.toList.drop 0 = dktX2_lost_0 := by decide +kernel
theorem dksX2_lost_1 : cX2_lost.data.toList.drop 20 = dktX2_lost_1 := dk_seg dksX2_lost_0 20 rfl rfl
theorem dksX2_lost_2 : cX2_lost.data.toList.drop 43 = dktX2_lost_2 := dk_seg dksX2_lost_1 23 rfl rfl
theorem dksX2_lost_3 : cX2_lost.data.toList.drop 66 = dktX2_lost_3 := dk_seg dksX2_lost_2 23 rfl rfl
theorem dX2_lost_0 : decode cX2_lost 0 = .ok (.aconst_null, 1) := dk_1 (dk_at dksX2_lost_0 0 rfl rfl)
theorem dX2_lost_1 : decode cX2_lost 1 = .ok (.astore_n 1, 1) := dk_76 (dk_at dksX2_lost_0 1 rfl rfl)
theorem dX2_lost_2 : decode cX2_lost 2 = .ok (.aload_n 0, 1) := dk_42 (dk_at dksX2_lost_0 2 rfl rfl)
theorem dX2_lost_3 : decode cX2_lost 3 = .ok (.getfield 12, 3) := dk_180 0 12 (dk_at dksX2_lost_0 3 rfl rfl)
theorem dX2_lost_6 : decode cX2_lost 6 = .ok (.invokevirtual 26, 3) := dk_182 0 26 (dk_at dksX2_lost_0 6 rfl rfl)
theorem dX2_lost_9 : decode cX2_lost 9 = .ok (.astore_n 2, 1) := dk_77 (dk_at dksX2_lost_0 9 rfl rfl)
theorem dX2_lost_10 : decode cX2_lost 10 = .ok (.aload_n 2, 1) := dk_44 (dk_at dksX2_lost_0 10 rfl rfl)
theorem dX2_lost_11 : decode cX2_lost 11 = .ok (.invokeinterface 30 1, 5) := by decide +kernel
theorem dX2_lost_16 : decode cX2_lost 16 = .ok (.ifCond .eq 58, 3) := dk_153 0 58 (dk_at dksX2_lost_0 16 rfl rfl)
theorem dX2_lost_19 : decode cX2_lost 19 = .ok (.aload_n 2, 1) := dk_44 (dk_at dksX2_lost_0 19 rfl rfl)
theorem dX2_lost_20 : decode cX2_lost 20 = .ok (.invokeinterface 36 1, 5) := by decide +kernel
theorem dX2_lost_25 : decode cX2_lost 25 = .ok (.checkcast 40, 3) := dk_192 0 40 (dk_at dksX2_lost_1 5 rfl rfl)
theorem dX2_lost_28 : decode cX2_lost 28 = .ok (.astore_n 3, 1) := dk_78 (dk_at dksX2_lost_1 8 rfl rfl)
theorem dX2_lost_29 : decode cX2_lost 29 = .ok (.aload_n 3, 1) := dk_45 (dk_at dksX2_lost_1 9 rfl rfl)
theorem dX2_lost_30 : decode cX2_lost 30 = .ok (.getfield 172, 3) := dk_180 0 172 (dk_at dksX2_lost_1 10 rfl rfl)
theorem dX2_lost_33 : decode cX2_lost 33 = .ok (.aload_n 0, 1) := dk_42 (dk_at dksX2_lost_1 13 rfl rfl)
theorem dX2_lost_34 : decode cX2_lost 34 = .ok (.aload_n 3, 1) := dk_45 (dk_at dksX2_lost_1 14 rfl rfl)
theorem dX2_lost_35 : decode cX2_lost 35 = .ok (.invokevirtual 114, 3) := dk_182 0 114 (dk_at dksX2_lost_1 15 rfl rfl)
theorem dX2_lost_38 : decode cX2_lost 38 = .ok (.imul, 1) := dk_104 (dk_at dksX2_lost_1 18 rfl rfl)
theorem dX2_lost_39 : decode cX2_lost 39 = .ok (.istore 4, 2) := dk_54 4 (dk_at dksX2_lost_1 19 rfl rfl)
theorem dX2_lost_41 : decode cX2_lost 41 = .ok (.iload 4, 2) := dk_21 4 (dk_at dksX2_lost_1 21 rfl rfl)
theorem dX2_lost_43 : decode cX2_lost 43 = .ok (.ifCond .le 26, 3) := dk_158 0 26 (dk_at dksX2_lost_2 0 rfl rfl)
theorem dX2_lost_46 : decode cX2_lost 46 = .ok (.aload_n 1, 1) := dk_43 (dk_at dksX2_lost_2 3 rfl rfl)
theorem dX2_lost_47 : decode cX2_lost 47 = .ok (.ifnull 18, 3) := dk_198 0 18 (dk_at dksX2_lost_2 4 rfl rfl)
theorem dX2_lost_50 : decode cX2_lost 50 = .ok (.iload 4, 2) := dk_21 4 (dk_at dksX2_lost_2 7 rfl rfl)
theorem dX2_lost_52 : decode cX2_lost 52 = .ok (.aload_n 1, 1) := dk_43 (dk_at dksX2_lost_2 9 rfl rfl)
theorem dX2_lost_53 : decode cX2_lost 53 = .ok (.getfield 172, 3) := dk_180 0 172 (dk_at dksX2_lost_2 10 rfl rfl)
theorem dX2_lost_56 : decode cX2_lost 56 = .ok (.aload_n 0, 1) := dk_42 (dk_at dksX2_lost_2 13 rfl rfl)
theorem dX2_lost_57 : decode cX2_lost 57 = .ok (.aload_n 1, 1) := dk_43 (dk_at dksX2_lost_2 14 rfl rfl)
theorem dX2_lost_58 : decode cX2_lost 58 = .ok (.invokevirtual 114, 3) := dk_182 0 114 (dk_at dksX2_lost_2 15 rfl rfl)
theorem dX2_lost_61 : decode cX2_lost 61 = .ok (.imul, 1) := dk_104 (dk_at dksX2_lost_2 18 rfl rfl)
theorem dX2_lost_62 : decode cX2_lost 62 = .ok (.if_icmp .le 7, 3) := dk_164 0 7 (dk_at dksX2_lost_2 19 rfl rfl)
theorem dX2_lost_65 : decode cX2_lost 65 = .ok (.aload_n 3, 1) := dk_45 (dk_at dksX2_lost_2 22 rfl rfl)
theorem dX2_lost_66 : decode cX2_lost 66 = .ok (.goto 4, 3) := dk_167 0 4 (dk_at dksX2_lost_3 0 rfl rfl)
theorem dX2_lost_69 : decode cX2_lost 69 = .ok (.aload_n 1, 1) := dk_43 (dk_at dksX2_lost_3 3 rfl rfl)
theorem dX2_lost_70 : decode cX2_lost 70 = .ok (.astore_n 1, 1) := dk_76 (dk_at dksX2_lost_3 4 rfl rfl)
theorem dX2_lost_71 : decode cX2_lost 71 = .ok (.goto (-61), 3) := dk_167 255 195 (dk_at dksX2_lost_3 5 rfl rfl)
theorem dX2_lost_74 : decode cX2_lost 74 = .ok (.aload_n 1, 1) := dk_43 (dk_at dksX2_lost_3 8 rfl rfl)
theorem dX2_lost_75 : decode cX2_lost 75 = .ok (.areturn, 1) := dk_176 (dk_at dksX2_lost_3 9 rfl rfl)
abbrev cX2_distance : ByteArray := prog_2_method_9_code
def yX2_distance : MethodName := ⟨RX2, "distance", "(LFlockHuts$Sheep;)I"⟩
def dkwX2_distance_1 : List UInt8 := [192, 0, 101, 182, 0, 110, 172]
abbrev dktX2_distance_1 : List UInt8 := dkwX2_distance_1 ++ []
def dkwX2_distance_0 : List UInt8 := [43, 180, 0, 107, 2, 160, 0, 7, 2, 167, 0, 21, 43, 42, 180, 0, 18, 43, 180, 0, 107, 182, 0, 95]
abbrev dktX2_distance_0 : List UInt8 := dkwX2_distance_0 ++ dktX2_distance_1
theorem dksX2_distance_0 : cX2_distance.data.toList.drop 0 = dktX2_distance_0 := by decide +kernel
theorem dksX2_distance_1 : cX2_distance.data.toList.drop 24 = dktX2_distance_1 := dk_seg dksX2_distance_0 24 rfl rfl
theorem dX2_distance_0 : decode cX2_distance 0 = .ok (.aload_n 1, 1) := dk_43 (dk_at dksX2_distance_0 0 rfl rfl)
theorem dX2_distance_1 : decode cX2_distance 1 = .ok (.getfield 107, 3) := dk_180 0 107 (dk_at dksX2_distance_0 1 rfl rfl)
theorem dX2_distance_4 : decode cX2_distance 4 = .ok (.iconst (-1), 1) := dk_2 (dk_at dksX2_distance_0 4 rfl rfl)
theorem dX2_distance_5 : decode cX2_distance 5 = .ok (.if_icmp .ne 7, 3) := dk_160 0 7 (dk_at dksX2_distance_0 5 rfl rfl)
theorem dX2_distance_8 : decode cX2_distance 8 = .ok (.iconst (-1), 1) := dk_2 (dk_at dksX2_distance_0 8 rfl rfl)
theorem dX2_distance_9 : decode cX2_distance 9 = .ok (.goto 21, 3) := dk_167 0 21 (dk_at dksX2_distance_0 9 rfl rfl)
theorem dX2_distance_12 : decode cX2_distance 12 = .ok (.aload_n 1, 1) := dk_43 (dk_at dksX2_distance_0 12 rfl rfl)
theorem dX2_distance_13 : decode cX2_distance 13 = .ok (.aload_n 0, 1) := dk_42 (dk_at dksX2_distance_0 13 rfl rfl)
theorem dX2_distance_14 : decode cX2_distance 14 = .ok (.getfield 18, 3) := dk_180 0 18 (dk_at dksX2_distance_0 14 rfl rfl)
theorem dX2_distance_17 : decode cX2_distance 17 = .ok (.aload_n 1, 1) := dk_43 (dk_at dksX2_distance_0 17 rfl rfl)
theorem dX2_distance_18 : decode cX2_distance 18 = .ok (.getfield 107, 3) := dk_180 0 107 (dk_at dksX2_distance_0 18 rfl rfl)
theorem dX2_distance_21 : decode cX2_distance 21 = .ok (.invokevirtual 95, 3) := dk_182 0 95 (dk_at dksX2_distance_0 21 rfl rfl)
theorem dX2_distance_24 : decode cX2_distance 24 = .ok (.checkcast 101, 3) := dk_192 0 101 (dk_at dksX2_distance_1 0 rfl rfl)
theorem dX2_distance_27 : decode cX2_distance 27 = .ok (.invokevirtual 110, 3) := dk_182 0 110 (dk_at dksX2_distance_1 3 rfl rfl)
theorem dX2_distance_30 : decode cX2_distance 30 = .ok (.ireturn, 1) := dk_172 (dk_at dksX2_distance_1 6 rfl rfl)
abbrev cX2_roundsToStill : ByteArray := prog_2_method_27_code
def yX2_roundsToStill : MethodName := ⟨RX2, "roundsToStill", "()I"⟩
def dkwX2_roundsToStill_1 : List UInt8 := [62, 132, 2, 1, 167, 255, 235, 28, 16, 40, 164, 0, 7, 2, 167, 0, 4, 28, 172]
abbrev dktX2_roundsToStill_1 : List UInt8 := dkwX2_roundsToStill_1 ++ []
def dkwX2_roundsToStill_0 : List UInt8 := [42, 182, 0, 189, 76, 3, 61, 28, 16, 40, 163, 0, 21, 43, 182, 0, 201, 154, 0, 14, 43, 182, 0, 193]
abbrev dktX2_roundsToStill_0 : List UInt8 := dkwX2_roundsToStill_0 ++ dktX2_roundsToStill_1
theorem dksX2_roundsToStill_0 : cX2_roundsToStill.data.toList.drop 0 = dktX2_roundsToStill_0 := by decide +kernel
theorem dksX2_roundsToStill_1 : cX2_roundsToStill.data.toList.drop 24 = dktX2_roundsToStill_1 := dk_seg dksX2_roundsToStill_0 24 rfl rfl
theorem dX2_roundsToStill_0 : decode cX2_roundsToStill 0 = .ok (.aload_n 0, 1) := dk_42 (dk_at dksX2_roundsToStill_0 0 rfl rfl)
theorem dX2_roundsToStill_1 : decode cX2_roundsToStill 1 = .ok (.invokevirtual 189, 3) := dk_182 0 189 (dk_at dksX2_roundsToStill_0 1 rfl rfl)
theorem dX2_roundsToStill_4 : decode cX2_roundsToStill 4 = .ok (.astore_n 1, 1) := dk_76 (dk_at dksX2_roundsToStill_0 4 rfl rfl)
theorem dX2_roundsToStill_5 : decode cX2_roundsToStill 5 = .ok (.iconst 0, 1) := dk_3 (dk_at dksX2_roundsToStill_0 5 rfl rfl)
theorem dX2_roundsToStill_6 : decode cX2_roundsToStill 6 = .ok (.istore_n 2, 1) := dk_61 (dk_at dksX2_roundsToStill_0 6 rfl rfl)
theorem dX2_roundsToStill_7 : decode cX2_roundsToStill 7 = .ok (.iload_n 2, 1) := dk_28 (dk_at dksX2_roundsToStill_0 7 rfl rfl)
theorem dX2_roundsToStill_8 : decode cX2_roundsToStill 8 = .ok (.bipush 40, 2) := dk_16 40 (dk_at dksX2_roundsToStill_0 8 rfl rfl)
theorem dX2_roundsToStill_10 : decode cX2_roundsToStill 10 = .ok (.if_icmp .gt 21, 3) := dk_163 0 21 (dk_at dksX2_roundsToStill_0 10 rfl rfl)
theorem dX2_roundsToStill_13 : decode cX2_roundsToStill 13 = .ok (.aload_n 1, 1) := dk_43 (dk_at dksX2_roundsToStill_0 13 rfl rfl)
theorem dX2_roundsToStill_14 : decode cX2_roundsToStill 14 = .ok (.invokevirtual 201, 3) := dk_182 0 201 (dk_at dksX2_roundsToStill_0 14 rfl rfl)
theorem dX2_roundsToStill_17 : decode cX2_roundsToStill 17 = .ok (.ifCond .ne 14, 3) := dk_154 0 14 (dk_at dksX2_roundsToStill_0 17 rfl rfl)
theorem dX2_roundsToStill_20 : decode cX2_roundsToStill 20 = .ok (.aload_n 1, 1) := dk_43 (dk_at dksX2_roundsToStill_0 20 rfl rfl)
theorem dX2_roundsToStill_21 : decode cX2_roundsToStill 21 = .ok (.invokevirtual 193, 3) := dk_182 0 193 (dk_at dksX2_roundsToStill_0 21 rfl rfl)
theorem dX2_roundsToStill_24 : decode cX2_roundsToStill 24 = .ok (.istore_n 3, 1) := dk_62 (dk_at dksX2_roundsToStill_1 0 rfl rfl)
theorem dX2_roundsToStill_25 : decode cX2_roundsToStill 25 = .ok (.iinc 2 1, 3) := dk_132 2 1 (dk_at dksX2_roundsToStill_1 1 rfl rfl)
theorem dX2_roundsToStill_28 : decode cX2_roundsToStill 28 = .ok (.goto (-21), 3) := dk_167 255 235 (dk_at dksX2_roundsToStill_1 4 rfl rfl)
theorem dX2_roundsToStill_31 : decode cX2_roundsToStill 31 = .ok (.iload_n 2, 1) := dk_28 (dk_at dksX2_roundsToStill_1 7 rfl rfl)
theorem dX2_roundsToStill_32 : decode cX2_roundsToStill 32 = .ok (.bipush 40, 2) := dk_16 40 (dk_at dksX2_roundsToStill_1 8 rfl rfl)
theorem dX2_roundsToStill_34 : decode cX2_roundsToStill 34 = .ok (.if_icmp .le 7, 3) := dk_164 0 7 (dk_at dksX2_roundsToStill_1 10 rfl rfl)
theorem dX2_roundsToStill_37 : decode cX2_roundsToStill 37 = .ok (.iconst (-1), 1) := dk_2 (dk_at dksX2_roundsToStill_1 13 rfl rfl)
theorem dX2_roundsToStill_38 : decode cX2_roundsToStill 38 = .ok (.goto 4, 3) := dk_167 0 4 (dk_at dksX2_roundsToStill_1 14 rfl rfl)
theorem dX2_roundsToStill_41 : decode cX2_roundsToStill 41 = .ok (.iload_n 2, 1) := dk_28 (dk_at dksX2_roundsToStill_1 17 rfl rfl)
theorem dX2_roundsToStill_42 : decode cX2_roundsToStill 42 = .ok (.ireturn, 1) := dk_172 (dk_at dksX2_roundsToStill_1 18 rfl rfl)
abbrev cX2_spreadAgain : ByteArray := prog_2_method_29_code
def yX2_spreadAgain : MethodName := ⟨RX2, "spreadAgain", "()I"⟩
def dkwX2_spreadAgain_6 : List UInt8 := [180, 0, 214, 104, 96, 104, 96, 61, 167, 255, 122, 27, 5, 28, 104, 100, 172]
abbrev dktX2_spreadAgain_6 : List UInt8 := dkwX2_spreadAgain_6 ++ []
def dkwX2_spreadAgain_5 : List UInt8 := [25, 4, 180, 0, 172, 25, 4, 180, 0, 207, 25, 5, 180, 0, 213, 104, 25, 4, 180, 0, 210, 25, 5]
abbrev dktX2_spreadAgain_5 : List UInt8 := dkwX2_spreadAgain_5 ++ dktX2_spreadAgain_6
def dkwX2_spreadAgain_4 : List UInt8 := [25, 5, 180, 0, 213, 104, 96, 25, 5, 180, 0, 214, 25, 5, 180, 0, 214, 104, 96, 104, 96, 60, 28]
abbrev dktX2_spreadAgain_4 : List UInt8 := dkwX2_spreadAgain_4 ++ dktX2_spreadAgain_5
def dkwX2_spreadAgain_3 : List UInt8 := [25, 4, 180, 0, 207, 104, 25, 4, 180, 0, 210, 25, 4, 180, 0, 210, 104, 96, 25, 5, 180, 0, 213]
abbrev dktX2_spreadAgain_3 : List UInt8 := dkwX2_spreadAgain_3 ++ dktX2_spreadAgain_4
def dkwX2_spreadAgain_2 : List UInt8 := [25, 4, 180, 0, 107, 182, 0, 95, 192, 0, 50, 58, 5, 27, 25, 4, 180, 0, 172, 25, 4, 180, 0, 207]
abbrev dktX2_spreadAgain_2 : List UInt8 := dkwX2_spreadAgain_2 ++ dktX2_spreadAgain_3
def dkwX2_spreadAgain_1 : List UInt8 := [185, 0, 36, 1, 0, 192, 0, 40, 58, 4, 25, 4, 180, 0, 107, 2, 159, 0, 108, 42, 180, 0, 18]
abbrev dktX2_spreadAgain_1 : List UInt8 := dkwX2_spreadAgain_1 ++ dktX2_spreadAgain_2
def dkwX2_spreadAgain_0 : List UInt8 := [3, 60, 3, 61, 42, 180, 0, 12, 182, 0, 26, 78, 45, 185, 0, 30, 1, 0, 153, 0, 131, 45]
abbrev dktX2_spreadAgain_0 : List UInt8 := dkwX2_spreadAgain_0 ++ dktX2_spreadAgain_1
theorem dksX2_spreadAgain_0 : cX2_spreadAgain.data.toList.drop 0 = dktX2_spreadAgain_0 := by decide +kernel
theorem dksX2_spreadAgain_1 : cX2_spreadAgain.data.toList.drop 22 = dktX2_spreadAgain_1 := dk_seg dksX2_spreadAgain_0 22 rfl rfl
theorem dksX2_spreadAgain_2 : cX2_spreadAgain.data.toList.drop 45 = dktX2_spreadAgain_2 := dk_seg dksX2_spreadAgain_1 23 rfl rfl
theorem dksX2_spreadAgain_3 : cX2_spreadAgain.data.toList.drop 69 = dktX2_spreadAgain_3 := dk_seg dksX2_spreadAgain_2 24 rfl rfl
theorem dksX2_spreadAgain_4 : cX2_spreadAgain.data.toList.drop 92 = dktX2_spreadAgain_4 := dk_seg dksX2_spreadAgain_3 23 rfl rfl
theorem dksX2_spreadAgain_5 : cX2_spreadAgain.data.toList.drop 115 = dktX2_spreadAgain_5 := dk_seg dksX2_spreadAgain_4 23 rfl rfl
theorem dksX2_spreadAgain_6 : cX2_spreadAgain.data.toList.drop 138 = dktX2_spreadAgain_6 := dk_seg dksX2_spreadAgain_5 23 rfl rfl
theorem dX2_spreadAgain_0 : decode cX2_spreadAgain 0 = .ok (.iconst 0, 1) := dk_3 (dk_at dksX2_spreadAgain_0 0 rfl rfl)
theorem dX2_spreadAgain_1 : decode cX2_spreadAgain 1 = .ok (.istore_n 1, 1) := dk_60 (dk_at dksX2_spreadAgain_0 1 rfl rfl)
theorem dX2_spreadAgain_2 : decode cX2_spreadAgain 2 = .ok (.iconst 0, 1) := dk_3 (dk_at dksX2_spreadAgain_0 2 rfl rfl)
theorem dX2_spreadAgain_3 : decode cX2_spreadAgain 3 = .ok (.istore_n 2, 1) := dk_61 (dk_at dksX2_spreadAgain_0 3 rfl rfl)
theorem dX2_spreadAgain_4 : decode cX2_spreadAgain 4 = .ok (.aload_n 0, 1) := dk_42 (dk_at dksX2_spreadAgain_0 4 rfl rfl)
theorem dX2_spreadAgain_5 : decode cX2_spreadAgain 5 = .ok (.getfield 12, 3) := dk_180 0 12 (dk_at dksX2_spreadAgain_0 5 rfl rfl)
theorem dX2_spreadAgain_8 : decode cX2_spreadAgain 8 = .ok (.invokevirtual 26, 3) := dk_182 0 26 (dk_at dksX2_spreadAgain_0 8 rfl rfl)
theorem dX2_spreadAgain_11 : decode cX2_spreadAgain 11 = .ok (.astore_n 3, 1) := dk_78 (dk_at dksX2_spreadAgain_0 11 rfl rfl)
theorem dX2_spreadAgain_12 : decode cX2_spreadAgain 12 = .ok (.aload_n 3, 1) := dk_45 (dk_at dksX2_spreadAgain_0 12 rfl rfl)
theorem dX2_spreadAgain_13 : decode cX2_spreadAgain 13 = .ok (.invokeinterface 30 1, 5) := by decide +kernel
theorem dX2_spreadAgain_18 : decode cX2_spreadAgain 18 = .ok (.ifCond .eq 131, 3) := dk_153 0 131 (dk_at dksX2_spreadAgain_0 18 rfl rfl)
theorem dX2_spreadAgain_21 : decode cX2_spreadAgain 21 = .ok (.aload_n 3, 1) := dk_45 (dk_at dksX2_spreadAgain_0 21 rfl rfl)
theorem dX2_spreadAgain_22 : decode cX2_spreadAgain 22 = .ok (.invokeinterface 36 1, 5) := by decide +kernel
theorem dX2_spreadAgain_27 : decode cX2_spreadAgain 27 = .ok (.checkcast 40, 3) := dk_192 0 40 (dk_at dksX2_spreadAgain_1 5 rfl rfl)
theorem dX2_spreadAgain_30 : decode cX2_spreadAgain 30 = .ok (.astore 4, 2) := dk_58 4 (dk_at dksX2_spreadAgain_1 8 rfl rfl)
theorem dX2_spreadAgain_32 : decode cX2_spreadAgain 32 = .ok (.aload 4, 2) := dk_25 4 (dk_at dksX2_spreadAgain_1 10 rfl rfl)
theorem dX2_spreadAgain_34 : decode cX2_spreadAgain 34 = .ok (.getfield 107, 3) := dk_180 0 107 (dk_at dksX2_spreadAgain_1 12 rfl rfl)
theorem dX2_spreadAgain_37 : decode cX2_spreadAgain 37 = .ok (.iconst (-1), 1) := dk_2 (dk_at dksX2_spreadAgain_1 15 rfl rfl)
theorem dX2_spreadAgain_38 : decode cX2_spreadAgain 38 = .ok (.if_icmp .eq 108, 3) := dk_159 0 108 (dk_at dksX2_spreadAgain_1 16 rfl rfl)
theorem dX2_spreadAgain_41 : decode cX2_spreadAgain 41 = .ok (.aload_n 0, 1) := dk_42 (dk_at dksX2_spreadAgain_1 19 rfl rfl)
theorem dX2_spreadAgain_42 : decode cX2_spreadAgain 42 = .ok (.getfield 18, 3) := dk_180 0 18 (dk_at dksX2_spreadAgain_1 20 rfl rfl)
theorem dX2_spreadAgain_45 : decode cX2_spreadAgain 45 = .ok (.aload 4, 2) := dk_25 4 (dk_at dksX2_spreadAgain_2 0 rfl rfl)
theorem dX2_spreadAgain_47 : decode cX2_spreadAgain 47 = .ok (.getfield 107, 3) := dk_180 0 107 (dk_at dksX2_spreadAgain_2 2 rfl rfl)
theorem dX2_spreadAgain_50 : decode cX2_spreadAgain 50 = .ok (.invokevirtual 95, 3) := dk_182 0 95 (dk_at dksX2_spreadAgain_2 5 rfl rfl)
theorem dX2_spreadAgain_53 : decode cX2_spreadAgain 53 = .ok (.checkcast 50, 3) := dk_192 0 50 (dk_at dksX2_spreadAgain_2 8 rfl rfl)
theorem dX2_spreadAgain_56 : decode cX2_spreadAgain 56 = .ok (.astore 5, 2) := dk_58 5 (dk_at dksX2_spreadAgain_2 11 rfl rfl)
theorem dX2_spreadAgain_58 : decode cX2_spreadAgain 58 = .ok (.iload_n 1, 1) := dk_27 (dk_at dksX2_spreadAgain_2 13 rfl rfl)
theorem dX2_spreadAgain_59 : decode cX2_spreadAgain 59 = .ok (.aload 4, 2) := dk_25 4 (dk_at dksX2_spreadAgain_2 14 rfl rfl)
theorem dX2_spreadAgain_61 : decode cX2_spreadAgain 61 = .ok (.getfield 172, 3) := dk_180 0 172 (dk_at dksX2_spreadAgain_2 16 rfl rfl)
theorem dX2_spreadAgain_64 : decode cX2_spreadAgain 64 = .ok (.aload 4, 2) := dk_25 4 (dk_at dksX2_spreadAgain_2 19 rfl rfl)
theorem dX2_spreadAgain_66 : decode cX2_spreadAgain 66 = .ok (.getfield 207, 3) := dk_180 0 207 (dk_at dksX2_spreadAgain_2 21 rfl rfl)
theorem dX2_spreadAgain_69 : decode cX2_spreadAgain 69 = .ok (.aload 4, 2) := dk_25 4 (dk_at dksX2_spreadAgain_3 0 rfl rfl)
theorem dX2_spreadAgain_71 : decode cX2_spreadAgain 71 = .ok (.getfield 207, 3) := dk_180 0 207 (dk_at dksX2_spreadAgain_3 2 rfl rfl)
theorem dX2_spreadAgain_74 : decode cX2_spreadAgain 74 = .ok (.imul, 1) := dk_104 (dk_at dksX2_spreadAgain_3 5 rfl rfl)
theorem dX2_spreadAgain_75 : decode cX2_spreadAgain 75 = .ok (.aload 4, 2) := dk_25 4 (dk_at dksX2_spreadAgain_3 6 rfl rfl)
theorem dX2_spreadAgain_77 : decode cX2_spreadAgain 77 = .ok (.getfield 210, 3) := dk_180 0 210 (dk_at dksX2_spreadAgain_3 8 rfl rfl)
theorem dX2_spreadAgain_80 : decode cX2_spreadAgain 80 = .ok (.aload 4, 2) := dk_25 4 (dk_at dksX2_spreadAgain_3 11 rfl rfl)
theorem dX2_spreadAgain_82 : decode cX2_spreadAgain 82 = .ok (.getfield 210, 3) := dk_180 0 210 (dk_at dksX2_spreadAgain_3 13 rfl rfl)
theorem dX2_spreadAgain_85 : decode cX2_spreadAgain 85 = .ok (.imul, 1) := dk_104 (dk_at dksX2_spreadAgain_3 16 rfl rfl)
theorem dX2_spreadAgain_86 : decode cX2_spreadAgain 86 = .ok (.iadd, 1) := dk_96 (dk_at dksX2_spreadAgain_3 17 rfl rfl)
theorem dX2_spreadAgain_87 : decode cX2_spreadAgain 87 = .ok (.aload 5, 2) := dk_25 5 (dk_at dksX2_spreadAgain_3 18 rfl rfl)
theorem dX2_spreadAgain_89 : decode cX2_spreadAgain 89 = .ok (.getfield 213, 3) := dk_180 0 213 (dk_at dksX2_spreadAgain_3 20 rfl rfl)
theorem dX2_spreadAgain_92 : decode cX2_spreadAgain 92 = .ok (.aload 5, 2) := dk_25 5 (dk_at dksX2_spreadAgain_4 0 rfl rfl)
theorem dX2_spreadAgain_94 : decode cX2_spreadAgain 94 = .ok (.getfield 213, 3) := dk_180 0 213 (dk_at dksX2_spreadAgain_4 2 rfl rfl)
theorem dX2_spreadAgain_97 : decode cX2_spreadAgain 97 = .ok (.imul, 1) := dk_104 (dk_at dksX2_spreadAgain_4 5 rfl rfl)
theorem dX2_spreadAgain_98 : decode cX2_spreadAgain 98 = .ok (.iadd, 1) := dk_96 (dk_at dksX2_spreadAgain_4 6 rfl rfl)
theorem dX2_spreadAgain_99 : decode cX2_spreadAgain 99 = .ok (.aload 5, 2) := dk_25 5 (dk_at dksX2_spreadAgain_4 7 rfl rfl)
theorem dX2_spreadAgain_101 : decode cX2_spreadAgain 101 = .ok (.getfield 214, 3) := dk_180 0 214 (dk_at dksX2_spreadAgain_4 9 rfl rfl)
theorem dX2_spreadAgain_104 : decode cX2_spreadAgain 104 = .ok (.aload 5, 2) := dk_25 5 (dk_at dksX2_spreadAgain_4 12 rfl rfl)
theorem dX2_spreadAgain_106 : decode cX2_spreadAgain 106 = .ok (.getfield 214, 3) := dk_180 0 214 (dk_at dksX2_spreadAgain_4 14 rfl rfl)
theorem dX2_spreadAgain_109 : decode cX2_spreadAgain 109 = .ok (.imul, 1) := dk_104 (dk_at dksX2_spreadAgain_4 17 rfl rfl)
theorem dX2_spreadAgain_110 : decode cX2_spreadAgain 110 = .ok (.iadd, 1) := dk_96 (dk_at dksX2_spreadAgain_4 18 rfl rfl)
theorem dX2_spreadAgain_111 : decode cX2_spreadAgain 111 = .ok (.imul, 1) := dk_104 (dk_at dksX2_spreadAgain_4 19 rfl rfl)
theorem dX2_spreadAgain_112 : decode cX2_spreadAgain 112 = .ok (.iadd, 1) := dk_96 (dk_at dksX2_spreadAgain_4 20 rfl rfl)
theorem dX2_spreadAgain_113 : decode cX2_spreadAgain 113 = .ok (.istore_n 1, 1) := dk_60 (dk_at dksX2_spreadAgain_4 21 rfl rfl)
theorem dX2_spreadAgain_114 : decode cX2_spreadAgain 114 = .ok (.iload_n 2, 1) := dk_28 (dk_at dksX2_spreadAgain_4 22 rfl rfl)
theorem dX2_spreadAgain_115 : decode cX2_spreadAgain 115 = .ok (.aload 4, 2) := dk_25 4 (dk_at dksX2_spreadAgain_5 0 rfl rfl)
theorem dX2_spreadAgain_117 : decode cX2_spreadAgain 117 = .ok (.getfield 172, 3) := dk_180 0 172 (dk_at dksX2_spreadAgain_5 2 rfl rfl)
theorem dX2_spreadAgain_120 : decode cX2_spreadAgain 120 = .ok (.aload 4, 2) := dk_25 4 (dk_at dksX2_spreadAgain_5 5 rfl rfl)
theorem dX2_spreadAgain_122 : decode cX2_spreadAgain 122 = .ok (.getfield 207, 3) := dk_180 0 207 (dk_at dksX2_spreadAgain_5 7 rfl rfl)
theorem dX2_spreadAgain_125 : decode cX2_spreadAgain 125 = .ok (.aload 5, 2) := dk_25 5 (dk_at dksX2_spreadAgain_5 10 rfl rfl)
theorem dX2_spreadAgain_127 : decode cX2_spreadAgain 127 = .ok (.getfield 213, 3) := dk_180 0 213 (dk_at dksX2_spreadAgain_5 12 rfl rfl)
theorem dX2_spreadAgain_130 : decode cX2_spreadAgain 130 = .ok (.imul, 1) := dk_104 (dk_at dksX2_spreadAgain_5 15 rfl rfl)
theorem dX2_spreadAgain_131 : decode cX2_spreadAgain 131 = .ok (.aload 4, 2) := dk_25 4 (dk_at dksX2_spreadAgain_5 16 rfl rfl)
theorem dX2_spreadAgain_133 : decode cX2_spreadAgain 133 = .ok (.getfield 210, 3) := dk_180 0 210 (dk_at dksX2_spreadAgain_5 18 rfl rfl)
theorem dX2_spreadAgain_136 : decode cX2_spreadAgain 136 = .ok (.aload 5, 2) := dk_25 5 (dk_at dksX2_spreadAgain_5 21 rfl rfl)
theorem dX2_spreadAgain_138 : decode cX2_spreadAgain 138 = .ok (.getfield 214, 3) := dk_180 0 214 (dk_at dksX2_spreadAgain_6 0 rfl rfl)
theorem dX2_spreadAgain_141 : decode cX2_spreadAgain 141 = .ok (.imul, 1) := dk_104 (dk_at dksX2_spreadAgain_6 3 rfl rfl)
theorem dX2_spreadAgain_142 : decode cX2_spreadAgain 142 = .ok (.iadd, 1) := dk_96 (dk_at dksX2_spreadAgain_6 4 rfl rfl)
theorem dX2_spreadAgain_143 : decode cX2_spreadAgain 143 = .ok (.imul, 1) := dk_104 (dk_at dksX2_spreadAgain_6 5 rfl rfl)
theorem dX2_spreadAgain_144 : decode cX2_spreadAgain 144 = .ok (.iadd, 1) := dk_96 (dk_at dksX2_spreadAgain_6 6 rfl rfl)
theorem dX2_spreadAgain_145 : decode cX2_spreadAgain 145 = .ok (.istore_n 2, 1) := dk_61 (dk_at dksX2_spreadAgain_6 7 rfl rfl)
theorem dX2_spreadAgain_146 : decode cX2_spreadAgain 146 = .ok (.goto (-134), 3) := dk_167 255 122 (dk_at dksX2_spreadAgain_6 8 rfl rfl)
theorem dX2_spreadAgain_149 : decode cX2_spreadAgain 149 = .ok (.iload_n 1, 1) := dk_27 (dk_at dksX2_spreadAgain_6 11 rfl rfl)
theorem dX2_spreadAgain_150 : decode cX2_spreadAgain 150 = .ok (.iconst 2, 1) := dk_5 (dk_at dksX2_spreadAgain_6 12 rfl rfl)
theorem dX2_spreadAgain_151 : decode cX2_spreadAgain 151 = .ok (.iload_n 2, 1) := dk_28 (dk_at dksX2_spreadAgain_6 13 rfl rfl)
theorem dX2_spreadAgain_152 : decode cX2_spreadAgain 152 = .ok (.imul, 1) := dk_104 (dk_at dksX2_spreadAgain_6 14 rfl rfl)
theorem dX2_spreadAgain_153 : decode cX2_spreadAgain 153 = .ok (.isub, 1) := dk_100 (dk_at dksX2_spreadAgain_6 15 rfl rfl)
theorem dX2_spreadAgain_154 : decode cX2_spreadAgain 154 = .ok (.ireturn, 1) := dk_172 (dk_at dksX2_spreadAgain_6 16 rfl rfl)
abbrev cX2_spread : ByteArray := prog_2_method_28_code
def yX2_spread : MethodName := ⟨RX2, "spread", "()I"⟩
def dkwX2_spread_1 : List UInt8 := [96, 60, 132, 2, 1, 167, 255, 231, 27, 172]
abbrev dktX2_spread_1 : List UInt8 := dkwX2_spread_1 ++ []
def dkwX2_spread_0 : List UInt8 := [3, 60, 3, 61, 28, 42, 180, 0, 18, 182, 0, 79, 162, 0, 20, 27, 42, 28, 182, 0, 155, 182, 0, 204]
abbrev dktX2_spread_0 : List UInt8 := dkwX2_spread_0 ++ dktX2_spread_1
theorem dksX2_spread_0 : cX2_spread.data.toList.drop 0 = dktX2_spread_0 := by decide +kernel
theorem dksX2_spread_1 : cX2_spread.data.toList.drop 24 = dktX2_spread_1 := dk_seg dksX2_spread_0 24 rfl rfl
theorem dX2_spread_0 : decode cX2_spread 0 = .ok (.iconst 0, 1) := dk_3 (dk_at dksX2_spread_0 0 rfl rfl)
theorem dX2_spread_1 : decode cX2_spread 1 = .ok (.istore_n 1, 1) := dk_60 (dk_at dksX2_spread_0 1 rfl rfl)
theorem dX2_spread_2 : decode cX2_spread 2 = .ok (.iconst 0, 1) := dk_3 (dk_at dksX2_spread_0 2 rfl rfl)
theorem dX2_spread_3 : decode cX2_spread 3 = .ok (.istore_n 2, 1) := dk_61 (dk_at dksX2_spread_0 3 rfl rfl)
theorem dX2_spread_4 : decode cX2_spread 4 = .ok (.iload_n 2, 1) := dk_28 (dk_at dksX2_spread_0 4 rfl rfl)
theorem dX2_spread_5 : decode cX2_spread 5 = .ok (.aload_n 0, 1) := dk_42 (dk_at dksX2_spread_0 5 rfl rfl)
theorem dX2_spread_6 : decode cX2_spread 6 = .ok (.getfield 18, 3) := dk_180 0 18 (dk_at dksX2_spread_0 6 rfl rfl)
theorem dX2_spread_9 : decode cX2_spread 9 = .ok (.invokevirtual 79, 3) := dk_182 0 79 (dk_at dksX2_spread_0 9 rfl rfl)
theorem dX2_spread_12 : decode cX2_spread 12 = .ok (.if_icmp .ge 20, 3) := dk_162 0 20 (dk_at dksX2_spread_0 12 rfl rfl)
theorem dX2_spread_15 : decode cX2_spread 15 = .ok (.iload_n 1, 1) := dk_27 (dk_at dksX2_spread_0 15 rfl rfl)
theorem dX2_spread_16 : decode cX2_spread 16 = .ok (.aload_n 0, 1) := dk_42 (dk_at dksX2_spread_0 16 rfl rfl)
theorem dX2_spread_17 : decode cX2_spread 17 = .ok (.iload_n 2, 1) := dk_28 (dk_at dksX2_spread_0 17 rfl rfl)
theorem dX2_spread_18 : decode cX2_spread 18 = .ok (.invokevirtual 155, 3) := dk_182 0 155 (dk_at dksX2_spread_0 18 rfl rfl)
theorem dX2_spread_21 : decode cX2_spread 21 = .ok (.invokevirtual 204, 3) := dk_182 0 204 (dk_at dksX2_spread_0 21 rfl rfl)
theorem dX2_spread_24 : decode cX2_spread 24 = .ok (.iadd, 1) := dk_96 (dk_at dksX2_spread_1 0 rfl rfl)
theorem dX2_spread_25 : decode cX2_spread 25 = .ok (.istore_n 1, 1) := dk_60 (dk_at dksX2_spread_1 1 rfl rfl)
theorem dX2_spread_26 : decode cX2_spread 26 = .ok (.iinc 2 1, 3) := dk_132 2 1 (dk_at dksX2_spread_1 2 rfl rfl)
theorem dX2_spread_29 : decode cX2_spread 29 = .ok (.goto (-25), 3) := dk_167 255 231 (dk_at dksX2_spread_1 5 rfl rfl)
theorem dX2_spread_32 : decode cX2_spread 32 = .ok (.iload_n 1, 1) := dk_27 (dk_at dksX2_spread_1 8 rfl rfl)
theorem dX2_spread_33 : decode cX2_spread 33 = .ok (.ireturn, 1) := dk_172 (dk_at dksX2_spread_1 9 rfl rfl)
abbrev cX2_strays : ByteArray := prog_2_method_32_code
def yX2_strays : MethodName := ⟨RX2, "strays", "()Ljava/util/ArrayList;"⟩
def dkwX2_strays_2 : List UInt8 := [182, 0, 46, 54, 4, 167, 255, 222, 43, 176]
abbrev dktX2_strays_2 : List UInt8 := dkwX2_strays_2 ++ []
def dkwX2_strays_1 : List UInt8 := [153, 0, 31, 44, 185, 0, 36, 1, 0, 192, 0, 40, 78, 42, 45, 182, 0, 219, 153, 0, 10, 43, 45]
abbrev dktX2_strays_1 : List UInt8 := dkwX2_strays_1 ++ dktX2_strays_2
def dkwX2_strays_0 : List UInt8 := [187, 0, 9, 89, 183, 0, 11, 76, 42, 180, 0, 12, 182, 0, 26, 77, 44, 185, 0, 30, 1, 0]
abbrev dktX2_strays_0 : List UInt8 := dkwX2_strays_0 ++ dktX2_strays_1
theorem dksX2_strays_0 : cX2_strays.data.toList.drop 0 = dktX2_strays_0 := by decide +kernel
theorem dksX2_strays_1 : cX2_strays.data.toList.drop 22 = dktX2_strays_1 := dk_seg dksX2_strays_0 22 rfl rfl
theorem dksX2_strays_2 : cX2_strays.data.toList.drop 45 = dktX2_strays_2 := dk_seg dksX2_strays_1 23 rfl rfl
theorem dX2_strays_0 : decode cX2_strays 0 = .ok (.new 9, 3) := dk_187 0 9 (dk_at dksX2_strays_0 0 rfl rfl)
theorem dX2_strays_3 : decode cX2_strays 3 = .ok (.dup, 1) := dk_89 (dk_at dksX2_strays_0 3 rfl rfl)
theorem dX2_strays_4 : decode cX2_strays 4 = .ok (.invokespecial 11, 3) := dk_183 0 11 (dk_at dksX2_strays_0 4 rfl rfl)
theorem dX2_strays_7 : decode cX2_strays 7 = .ok (.astore_n 1, 1) := dk_76 (dk_at dksX2_strays_0 7 rfl rfl)
theorem dX2_strays_8 : decode cX2_strays 8 = .ok (.aload_n 0, 1) := dk_42 (dk_at dksX2_strays_0 8 rfl rfl)
theorem dX2_strays_9 : decode cX2_strays 9 = .ok (.getfield 12, 3) := dk_180 0 12 (dk_at dksX2_strays_0 9 rfl rfl)
theorem dX2_strays_12 : decode cX2_strays 12 = .ok (.invokevirtual 26, 3) := dk_182 0 26 (dk_at dksX2_strays_0 12 rfl rfl)
theorem dX2_strays_15 : decode cX2_strays 15 = .ok (.astore_n 2, 1) := dk_77 (dk_at dksX2_strays_0 15 rfl rfl)
theorem dX2_strays_16 : decode cX2_strays 16 = .ok (.aload_n 2, 1) := dk_44 (dk_at dksX2_strays_0 16 rfl rfl)
theorem dX2_strays_17 : decode cX2_strays 17 = .ok (.invokeinterface 30 1, 5) := by decide +kernel
theorem dX2_strays_22 : decode cX2_strays 22 = .ok (.ifCond .eq 31, 3) := dk_153 0 31 (dk_at dksX2_strays_1 0 rfl rfl)
theorem dX2_strays_25 : decode cX2_strays 25 = .ok (.aload_n 2, 1) := dk_44 (dk_at dksX2_strays_1 3 rfl rfl)
theorem dX2_strays_26 : decode cX2_strays 26 = .ok (.invokeinterface 36 1, 5) := by decide +kernel
theorem dX2_strays_31 : decode cX2_strays 31 = .ok (.checkcast 40, 3) := dk_192 0 40 (dk_at dksX2_strays_1 9 rfl rfl)
theorem dX2_strays_34 : decode cX2_strays 34 = .ok (.astore_n 3, 1) := dk_78 (dk_at dksX2_strays_1 12 rfl rfl)
theorem dX2_strays_35 : decode cX2_strays 35 = .ok (.aload_n 0, 1) := dk_42 (dk_at dksX2_strays_1 13 rfl rfl)
theorem dX2_strays_36 : decode cX2_strays 36 = .ok (.aload_n 3, 1) := dk_45 (dk_at dksX2_strays_1 14 rfl rfl)
theorem dX2_strays_37 : decode cX2_strays 37 = .ok (.invokevirtual 219, 3) := dk_182 0 219 (dk_at dksX2_strays_1 15 rfl rfl)
theorem dX2_strays_40 : decode cX2_strays 40 = .ok (.ifCond .eq 10, 3) := dk_153 0 10 (dk_at dksX2_strays_1 18 rfl rfl)
theorem dX2_strays_43 : decode cX2_strays 43 = .ok (.aload_n 1, 1) := dk_43 (dk_at dksX2_strays_1 21 rfl rfl)
theorem dX2_strays_44 : decode cX2_strays 44 = .ok (.aload_n 3, 1) := dk_45 (dk_at dksX2_strays_1 22 rfl rfl)
theorem dX2_strays_45 : decode cX2_strays 45 = .ok (.invokevirtual 46, 3) := dk_182 0 46 (dk_at dksX2_strays_2 0 rfl rfl)
theorem dX2_strays_48 : decode cX2_strays 48 = .ok (.istore 4, 2) := dk_54 4 (dk_at dksX2_strays_2 3 rfl rfl)
theorem dX2_strays_50 : decode cX2_strays 50 = .ok (.goto (-34), 3) := dk_167 255 222 (dk_at dksX2_strays_2 5 rfl rfl)
theorem dX2_strays_53 : decode cX2_strays 53 = .ok (.aload_n 1, 1) := dk_43 (dk_at dksX2_strays_2 8 rfl rfl)
theorem dX2_strays_54 : decode cX2_strays 54 = .ok (.areturn, 1) := dk_176 (dk_at dksX2_strays_2 9 rfl rfl)
abbrev cX2_isStray : ByteArray := prog_2_method_10_code
def yX2_isStray : MethodName := ⟨RX2, "isStray", "(LFlockHuts$Sheep;)Z"⟩
def dkwX2_isStray_1 : List UInt8 := [28, 182, 0, 95, 192, 0, 101, 182, 0, 110, 42, 43, 182, 0, 114, 162, 0, 7, 4, 167, 0, 4, 3, 172]
abbrev dktX2_isStray_1 : List UInt8 := dkwX2_isStray_1 ++ []
def dkwX2_isStray_0 : List UInt8 := [42, 43, 182, 0, 111, 61, 28, 2, 159, 0, 38, 43, 180, 0, 107, 2, 159, 0, 26, 43, 42, 180, 0, 18]
abbrev dktX2_isStray_0 : List UInt8 := dkwX2_isStray_0 ++ dktX2_isStray_1
theorem dksX2_isStray_0 : cX2_isStray.data.toList.drop 0 = dktX2_isStray_0 := by decide +kernel
theorem dksX2_isStray_1 : cX2_isStray.data.toList.drop 24 = dktX2_isStray_1 := dk_seg dksX2_isStray_0 24 rfl rfl
theorem dX2_isStray_0 : decode cX2_isStray 0 = .ok (.aload_n 0, 1) := dk_42 (dk_at dksX2_isStray_0 0 rfl rfl)
theorem dX2_isStray_1 : decode cX2_isStray 1 = .ok (.aload_n 1, 1) := dk_43 (dk_at dksX2_isStray_0 1 rfl rfl)
theorem dX2_isStray_2 : decode cX2_isStray 2 = .ok (.invokevirtual 111, 3) := dk_182 0 111 (dk_at dksX2_isStray_0 2 rfl rfl)
theorem dX2_isStray_5 : decode cX2_isStray 5 = .ok (.istore_n 2, 1) := dk_61 (dk_at dksX2_isStray_0 5 rfl rfl)
theorem dX2_isStray_6 : decode cX2_isStray 6 = .ok (.iload_n 2, 1) := dk_28 (dk_at dksX2_isStray_0 6 rfl rfl)
theorem dX2_isStray_7 : decode cX2_isStray 7 = .ok (.iconst (-1), 1) := dk_2 (dk_at dksX2_isStray_0 7 rfl rfl)
theorem dX2_isStray_8 : decode cX2_isStray 8 = .ok (.if_icmp .eq 38, 3) := dk_159 0 38 (dk_at dksX2_isStray_0 8 rfl rfl)
theorem dX2_isStray_11 : decode cX2_isStray 11 = .ok (.aload_n 1, 1) := dk_43 (dk_at dksX2_isStray_0 11 rfl rfl)
theorem dX2_isStray_12 : decode cX2_isStray 12 = .ok (.getfield 107, 3) := dk_180 0 107 (dk_at dksX2_isStray_0 12 rfl rfl)
theorem dX2_isStray_15 : decode cX2_isStray 15 = .ok (.iconst (-1), 1) := dk_2 (dk_at dksX2_isStray_0 15 rfl rfl)
theorem dX2_isStray_16 : decode cX2_isStray 16 = .ok (.if_icmp .eq 26, 3) := dk_159 0 26 (dk_at dksX2_isStray_0 16 rfl rfl)
theorem dX2_isStray_19 : decode cX2_isStray 19 = .ok (.aload_n 1, 1) := dk_43 (dk_at dksX2_isStray_0 19 rfl rfl)
theorem dX2_isStray_20 : decode cX2_isStray 20 = .ok (.aload_n 0, 1) := dk_42 (dk_at dksX2_isStray_0 20 rfl rfl)
theorem dX2_isStray_21 : decode cX2_isStray 21 = .ok (.getfield 18, 3) := dk_180 0 18 (dk_at dksX2_isStray_0 21 rfl rfl)
theorem dX2_isStray_24 : decode cX2_isStray 24 = .ok (.iload_n 2, 1) := dk_28 (dk_at dksX2_isStray_1 0 rfl rfl)
theorem dX2_isStray_25 : decode cX2_isStray 25 = .ok (.invokevirtual 95, 3) := dk_182 0 95 (dk_at dksX2_isStray_1 1 rfl rfl)
theorem dX2_isStray_28 : decode cX2_isStray 28 = .ok (.checkcast 101, 3) := dk_192 0 101 (dk_at dksX2_isStray_1 4 rfl rfl)
theorem dX2_isStray_31 : decode cX2_isStray 31 = .ok (.invokevirtual 110, 3) := dk_182 0 110 (dk_at dksX2_isStray_1 7 rfl rfl)
theorem dX2_isStray_34 : decode cX2_isStray 34 = .ok (.aload_n 0, 1) := dk_42 (dk_at dksX2_isStray_1 10 rfl rfl)
theorem dX2_isStray_35 : decode cX2_isStray 35 = .ok (.aload_n 1, 1) := dk_43 (dk_at dksX2_isStray_1 11 rfl rfl)
theorem dX2_isStray_36 : decode cX2_isStray 36 = .ok (.invokevirtual 114, 3) := dk_182 0 114 (dk_at dksX2_isStray_1 12 rfl rfl)
theorem dX2_isStray_39 : decode cX2_isStray 39 = .ok (.if_icmp .ge 7, 3) := dk_162 0 7 (dk_at dksX2_isStray_1 15 rfl rfl)
theorem dX2_isStray_42 : decode cX2_isStray 42 = .ok (.iconst 1, 1) := dk_4 (dk_at dksX2_isStray_1 18 rfl rfl)
theorem dX2_isStray_43 : decode cX2_isStray 43 = .ok (.goto 4, 3) := dk_167 0 4 (dk_at dksX2_isStray_1 19 rfl rfl)
theorem dX2_isStray_46 : decode cX2_isStray 46 = .ok (.iconst 0, 1) := dk_3 (dk_at dksX2_isStray_1 22 rfl rfl)
theorem dX2_isStray_47 : decode cX2_isStray 47 = .ok (.ireturn, 1) := dk_172 (dk_at dksX2_isStray_1 23 rfl rfl)
abbrev cX2_isRight : ByteArray := prog_2_method_37_code
def yX2_isRight : MethodName := ⟨RX2, "isRight", "()Z"⟩
def dkwX2_isRight_6 : List UInt8 := [182, 0, 192, 153, 0, 7, 4, 167, 0, 4, 3, 172]
abbrev dktX2_isRight_6 : List UInt8 := dkwX2_isRight_6 ++ []
def dkwX2_isRight_5 : List UInt8 := [167, 255, 231, 28, 153, 0, 28, 27, 154, 0, 24, 42, 182, 0, 201, 153, 0, 13, 42, 182, 0, 228]
abbrev dktX2_isRight_5 : List UInt8 := dkwX2_isRight_5 ++ dktX2_isRight_6
def dkwX2_isRight_4 : List UInt8 := [42, 180, 0, 18, 182, 0, 79, 162, 0, 20, 27, 42, 29, 182, 0, 155, 182, 0, 159, 100, 60, 132, 3, 1]
abbrev dktX2_isRight_4 : List UInt8 := dkwX2_isRight_4 ++ dktX2_isRight_5
def dkwX2_isRight_3 : List UInt8 := [61, 27, 25, 4, 180, 0, 107, 2, 160, 0, 7, 3, 167, 0, 4, 4, 96, 60, 167, 255, 194, 3, 62, 29]
abbrev dktX2_isRight_3 : List UInt8 := dkwX2_isRight_3 ++ dktX2_isRight_4
def dkwX2_isRight_2 : List UInt8 := [28, 25, 4, 180, 0, 107, 133, 20, 0, 226, 42, 180, 0, 18, 182, 0, 79, 4, 100, 133, 184, 0, 83, 126]
abbrev dktX2_isRight_2 : List UInt8 := dkwX2_isRight_2 ++ dktX2_isRight_3
def dkwX2_isRight_1 : List UInt8 := [182, 0, 26, 78, 45, 185, 0, 30, 1, 0, 153, 0, 59, 45, 185, 0, 36, 1, 0, 192, 0, 40, 58, 4]
abbrev dktX2_isRight_1 : List UInt8 := dkwX2_isRight_1 ++ dktX2_isRight_2
def dkwX2_isRight_0 : List UInt8 := [3, 60, 42, 182, 0, 218, 42, 182, 0, 242, 160, 0, 7, 4, 167, 0, 4, 3, 61, 42, 180, 0, 12]
abbrev dktX2_isRight_0 : List UInt8 := dkwX2_isRight_0 ++ dktX2_isRight_1
theorem dksX2_isRight_0 : cX2_isRight.data.toList.drop 0 = dktX2_isRight_0 := by decide +kernel
theorem dksX2_isRight_1 : cX2_isRight.data.toList.drop 23 = dktX2_isRight_1 := dk_seg dksX2_isRight_0 23 rfl rfl
theorem dksX2_isRight_2 : cX2_isRight.data.toList.drop 47 = dktX2_isRight_2 := dk_seg dksX2_isRight_1 24 rfl rfl
theorem dksX2_isRight_3 : cX2_isRight.data.toList.drop 71 = dktX2_isRight_3 := dk_seg dksX2_isRight_2 24 rfl rfl
theorem dksX2_isRight_4 : cX2_isRight.data.toList.drop 95 = dktX2_isRight_4 := dk_seg dksX2_isRight_3 24 rfl rfl
theorem dksX2_isRight_5 : cX2_isRight.data.toList.drop 119 = dktX2_isRight_5 := dk_seg dksX2_isRight_4 24 rfl rfl
theorem dksX2_isRight_6 : cX2_isRight.data.toList.drop 141 = dktX2_isRight_6 := dk_seg dksX2_isRight_5 22 rfl rfl
theorem dX2_isRight_0 : decode cX2_isRight 0 = .ok (.iconst 0, 1) := dk_3 (dk_at dksX2_isRight_0 0 rfl rfl)
theorem dX2_isRight_1 : decode cX2_isRight 1 = .ok (.istore_n 1, 1) := dk_60 (dk_at dksX2_isRight_0 1 rfl rfl)
theorem dX2_isRight_2 : decode cX2_isRight 2 = .ok (.aload_n 0, 1) := dk_42 (dk_at dksX2_isRight_0 2 rfl rfl)
theorem dX2_isRight_3 : decode cX2_isRight 3 = .ok (.invokevirtual 218, 3) := dk_182 0 218 (dk_at dksX2_isRight_0 3 rfl rfl)
theorem dX2_isRight_6 : decode cX2_isRight 6 = .ok (.aload_n 0, 1) := dk_42 (dk_at dksX2_isRight_0 6 rfl rfl)
theorem dX2_isRight_7 : decode cX2_isRight 7 = .ok (.invokevirtual 242, 3) := dk_182 0 242 (dk_at dksX2_isRight_0 7 rfl rfl)
theorem dX2_isRight_10 : decode cX2_isRight 10 = .ok (.if_icmp .ne 7, 3) := dk_160 0 7 (dk_at dksX2_isRight_0 10 rfl rfl)
theorem dX2_isRight_13 : decode cX2_isRight 13 = .ok (.iconst 1, 1) := dk_4 (dk_at dksX2_isRight_0 13 rfl rfl)
theorem dX2_isRight_14 : decode cX2_isRight 14 = .ok (.goto 4, 3) := dk_167 0 4 (dk_at dksX2_isRight_0 14 rfl rfl)
theorem dX2_isRight_17 : decode cX2_isRight 17 = .ok (.iconst 0, 1) := dk_3 (dk_at dksX2_isRight_0 17 rfl rfl)
theorem dX2_isRight_18 : decode cX2_isRight 18 = .ok (.istore_n 2, 1) := dk_61 (dk_at dksX2_isRight_0 18 rfl rfl)
theorem dX2_isRight_19 : decode cX2_isRight 19 = .ok (.aload_n 0, 1) := dk_42 (dk_at dksX2_isRight_0 19 rfl rfl)
theorem dX2_isRight_20 : decode cX2_isRight 20 = .ok (.getfield 12, 3) := dk_180 0 12 (dk_at dksX2_isRight_0 20 rfl rfl)
theorem dX2_isRight_23 : decode cX2_isRight 23 = .ok (.invokevirtual 26, 3) := dk_182 0 26 (dk_at dksX2_isRight_1 0 rfl rfl)
theorem dX2_isRight_26 : decode cX2_isRight 26 = .ok (.astore_n 3, 1) := dk_78 (dk_at dksX2_isRight_1 3 rfl rfl)
theorem dX2_isRight_27 : decode cX2_isRight 27 = .ok (.aload_n 3, 1) := dk_45 (dk_at dksX2_isRight_1 4 rfl rfl)
theorem dX2_isRight_28 : decode cX2_isRight 28 = .ok (.invokeinterface 30 1, 5) := by decide +kernel
theorem dX2_isRight_33 : decode cX2_isRight 33 = .ok (.ifCond .eq 59, 3) := dk_153 0 59 (dk_at dksX2_isRight_1 10 rfl rfl)
theorem dX2_isRight_36 : decode cX2_isRight 36 = .ok (.aload_n 3, 1) := dk_45 (dk_at dksX2_isRight_1 13 rfl rfl)
theorem dX2_isRight_37 : decode cX2_isRight 37 = .ok (.invokeinterface 36 1, 5) := by decide +kernel
theorem dX2_isRight_42 : decode cX2_isRight 42 = .ok (.checkcast 40, 3) := dk_192 0 40 (dk_at dksX2_isRight_1 19 rfl rfl)
theorem dX2_isRight_45 : decode cX2_isRight 45 = .ok (.astore 4, 2) := dk_58 4 (dk_at dksX2_isRight_1 22 rfl rfl)
theorem dX2_isRight_47 : decode cX2_isRight 47 = .ok (.iload_n 2, 1) := dk_28 (dk_at dksX2_isRight_2 0 rfl rfl)
theorem dX2_isRight_48 : decode cX2_isRight 48 = .ok (.aload 4, 2) := dk_25 4 (dk_at dksX2_isRight_2 1 rfl rfl)
theorem dX2_isRight_50 : decode cX2_isRight 50 = .ok (.getfield 107, 3) := dk_180 0 107 (dk_at dksX2_isRight_2 3 rfl rfl)
theorem dX2_isRight_53 : decode cX2_isRight 53 = .ok (.i2l, 1) := dk_133 (dk_at dksX2_isRight_2 6 rfl rfl)
theorem dX2_isRight_54 : decode cX2_isRight 54 = .ok (.ldc2_w 226, 3) := dk_20 0 226 (dk_at dksX2_isRight_2 7 rfl rfl)
theorem dX2_isRight_57 : decode cX2_isRight 57 = .ok (.aload_n 0, 1) := dk_42 (dk_at dksX2_isRight_2 10 rfl rfl)
theorem dX2_isRight_58 : decode cX2_isRight 58 = .ok (.getfield 18, 3) := dk_180 0 18 (dk_at dksX2_isRight_2 11 rfl rfl)
theorem dX2_isRight_61 : decode cX2_isRight 61 = .ok (.invokevirtual 79, 3) := dk_182 0 79 (dk_at dksX2_isRight_2 14 rfl rfl)
theorem dX2_isRight_64 : decode cX2_isRight 64 = .ok (.iconst 1, 1) := dk_4 (dk_at dksX2_isRight_2 17 rfl rfl)
theorem dX2_isRight_65 : decode cX2_isRight 65 = .ok (.isub, 1) := dk_100 (dk_at dksX2_isRight_2 18 rfl rfl)
theorem dX2_isRight_66 : decode cX2_isRight 66 = .ok (.i2l, 1) := dk_133 (dk_at dksX2_isRight_2 19 rfl rfl)
theorem dX2_isRight_67 : decode cX2_isRight 67 = .ok (.invokestatic 83, 3) := dk_184 0 83 (dk_at dksX2_isRight_2 20 rfl rfl)
theorem dX2_isRight_70 : decode cX2_isRight 70 = .ok (.iand, 1) := dk_126 (dk_at dksX2_isRight_2 23 rfl rfl)
theorem dX2_isRight_71 : decode cX2_isRight 71 = .ok (.istore_n 2, 1) := dk_61 (dk_at dksX2_isRight_3 0 rfl rfl)
theorem dX2_isRight_72 : decode cX2_isRight 72 = .ok (.iload_n 1, 1) := dk_27 (dk_at dksX2_isRight_3 1 rfl rfl)
theorem dX2_isRight_73 : decode cX2_isRight 73 = .ok (.aload 4, 2) := dk_25 4 (dk_at dksX2_isRight_3 2 rfl rfl)
theorem dX2_isRight_75 : decode cX2_isRight 75 = .ok (.getfield 107, 3) := dk_180 0 107 (dk_at dksX2_isRight_3 4 rfl rfl)
theorem dX2_isRight_78 : decode cX2_isRight 78 = .ok (.iconst (-1), 1) := dk_2 (dk_at dksX2_isRight_3 7 rfl rfl)
theorem dX2_isRight_79 : decode cX2_isRight 79 = .ok (.if_icmp .ne 7, 3) := dk_160 0 7 (dk_at dksX2_isRight_3 8 rfl rfl)
theorem dX2_isRight_82 : decode cX2_isRight 82 = .ok (.iconst 0, 1) := dk_3 (dk_at dksX2_isRight_3 11 rfl rfl)
theorem dX2_isRight_83 : decode cX2_isRight 83 = .ok (.goto 4, 3) := dk_167 0 4 (dk_at dksX2_isRight_3 12 rfl rfl)
theorem dX2_isRight_86 : decode cX2_isRight 86 = .ok (.iconst 1, 1) := dk_4 (dk_at dksX2_isRight_3 15 rfl rfl)
theorem dX2_isRight_87 : decode cX2_isRight 87 = .ok (.iadd, 1) := dk_96 (dk_at dksX2_isRight_3 16 rfl rfl)
theorem dX2_isRight_88 : decode cX2_isRight 88 = .ok (.istore_n 1, 1) := dk_60 (dk_at dksX2_isRight_3 17 rfl rfl)
theorem dX2_isRight_89 : decode cX2_isRight 89 = .ok (.goto (-62), 3) := dk_167 255 194 (dk_at dksX2_isRight_3 18 rfl rfl)
theorem dX2_isRight_92 : decode cX2_isRight 92 = .ok (.iconst 0, 1) := dk_3 (dk_at dksX2_isRight_3 21 rfl rfl)
theorem dX2_isRight_93 : decode cX2_isRight 93 = .ok (.istore_n 3, 1) := dk_62 (dk_at dksX2_isRight_3 22 rfl rfl)
theorem dX2_isRight_94 : decode cX2_isRight 94 = .ok (.iload_n 3, 1) := dk_29 (dk_at dksX2_isRight_3 23 rfl rfl)
theorem dX2_isRight_95 : decode cX2_isRight 95 = .ok (.aload_n 0, 1) := dk_42 (dk_at dksX2_isRight_4 0 rfl rfl)
theorem dX2_isRight_96 : decode cX2_isRight 96 = .ok (.getfield 18, 3) := dk_180 0 18 (dk_at dksX2_isRight_4 1 rfl rfl)
theorem dX2_isRight_99 : decode cX2_isRight 99 = .ok (.invokevirtual 79, 3) := dk_182 0 79 (dk_at dksX2_isRight_4 4 rfl rfl)
theorem dX2_isRight_102 : decode cX2_isRight 102 = .ok (.if_icmp .ge 20, 3) := dk_162 0 20 (dk_at dksX2_isRight_4 7 rfl rfl)
theorem dX2_isRight_105 : decode cX2_isRight 105 = .ok (.iload_n 1, 1) := dk_27 (dk_at dksX2_isRight_4 10 rfl rfl)
theorem dX2_isRight_106 : decode cX2_isRight 106 = .ok (.aload_n 0, 1) := dk_42 (dk_at dksX2_isRight_4 11 rfl rfl)
theorem dX2_isRight_107 : decode cX2_isRight 107 = .ok (.iload_n 3, 1) := dk_29 (dk_at dksX2_isRight_4 12 rfl rfl)
theorem dX2_isRight_108 : decode cX2_isRight 108 = .ok (.invokevirtual 155, 3) := dk_182 0 155 (dk_at dksX2_isRight_4 13 rfl rfl)
theorem dX2_isRight_111 : decode cX2_isRight 111 = .ok (.invokevirtual 159, 3) := dk_182 0 159 (dk_at dksX2_isRight_4 16 rfl rfl)
theorem dX2_isRight_114 : decode cX2_isRight 114 = .ok (.isub, 1) := dk_100 (dk_at dksX2_isRight_4 19 rfl rfl)
theorem dX2_isRight_115 : decode cX2_isRight 115 = .ok (.istore_n 1, 1) := dk_60 (dk_at dksX2_isRight_4 20 rfl rfl)
theorem dX2_isRight_116 : decode cX2_isRight 116 = .ok (.iinc 3 1, 3) := dk_132 3 1 (dk_at dksX2_isRight_4 21 rfl rfl)
theorem dX2_isRight_119 : decode cX2_isRight 119 = .ok (.goto (-25), 3) := dk_167 255 231 (dk_at dksX2_isRight_5 0 rfl rfl)
theorem dX2_isRight_122 : decode cX2_isRight 122 = .ok (.iload_n 2, 1) := dk_28 (dk_at dksX2_isRight_5 3 rfl rfl)
theorem dX2_isRight_123 : decode cX2_isRight 123 = .ok (.ifCond .eq 28, 3) := dk_153 0 28 (dk_at dksX2_isRight_5 4 rfl rfl)
theorem dX2_isRight_126 : decode cX2_isRight 126 = .ok (.iload_n 1, 1) := dk_27 (dk_at dksX2_isRight_5 7 rfl rfl)
theorem dX2_isRight_127 : decode cX2_isRight 127 = .ok (.ifCond .ne 24, 3) := dk_154 0 24 (dk_at dksX2_isRight_5 8 rfl rfl)
theorem dX2_isRight_130 : decode cX2_isRight 130 = .ok (.aload_n 0, 1) := dk_42 (dk_at dksX2_isRight_5 11 rfl rfl)
theorem dX2_isRight_131 : decode cX2_isRight 131 = .ok (.invokevirtual 201, 3) := dk_182 0 201 (dk_at dksX2_isRight_5 12 rfl rfl)
theorem dX2_isRight_134 : decode cX2_isRight 134 = .ok (.ifCond .eq 13, 3) := dk_153 0 13 (dk_at dksX2_isRight_5 15 rfl rfl)
theorem dX2_isRight_137 : decode cX2_isRight 137 = .ok (.aload_n 0, 1) := dk_42 (dk_at dksX2_isRight_5 18 rfl rfl)
theorem dX2_isRight_138 : decode cX2_isRight 138 = .ok (.invokevirtual 228, 3) := dk_182 0 228 (dk_at dksX2_isRight_5 19 rfl rfl)
theorem dX2_isRight_141 : decode cX2_isRight 141 = .ok (.invokevirtual 192, 3) := dk_182 0 192 (dk_at dksX2_isRight_6 0 rfl rfl)
theorem dX2_isRight_144 : decode cX2_isRight 144 = .ok (.ifCond .eq 7, 3) := dk_153 0 7 (dk_at dksX2_isRight_6 3 rfl rfl)
theorem dX2_isRight_147 : decode cX2_isRight 147 = .ok (.iconst 1, 1) := dk_4 (dk_at dksX2_isRight_6 6 rfl rfl)
theorem dX2_isRight_148 : decode cX2_isRight 148 = .ok (.goto 4, 3) := dk_167 0 4 (dk_at dksX2_isRight_6 7 rfl rfl)
theorem dX2_isRight_151 : decode cX2_isRight 151 = .ok (.iconst 0, 1) := dk_3 (dk_at dksX2_isRight_6 10 rfl rfl)
theorem dX2_isRight_152 : decode cX2_isRight 152 = .ok (.ireturn, 1) := dk_172 (dk_at dksX2_isRight_6 11 rfl rfl)
abbrev cX2_told : ByteArray := prog_2_method_39_code
def yX2_told : MethodName := ⟨RX2, "told", "()Ljava/lang/String;"⟩
def dkwX2_told_3 : List UInt8 := [182, 0, 252, 182, 1, 0, 182, 1, 8, 58, 4, 167, 255, 194, 43, 182, 1, 0, 176]
abbrev dktX2_told_3 : List UInt8 := dkwX2_told_3 ++ []
def dkwX2_told_2 : List UInt8 := [19, 1, 4, 167, 0, 26, 187, 0, 245, 89, 183, 0, 247, 19, 1, 6, 182, 1, 8, 45, 180, 0, 107]
abbrev dktX2_told_2 : List UInt8 := dkwX2_told_2 ++ dktX2_told_3
def dkwX2_told_1 : List UInt8 := [153, 0, 59, 44, 185, 0, 36, 1, 0, 192, 0, 40, 78, 43, 45, 180, 0, 107, 2, 160, 0, 9]
abbrev dktX2_told_1 : List UInt8 := dkwX2_told_1 ++ dktX2_told_2
def dkwX2_told_0 : List UInt8 := [187, 0, 245, 89, 183, 0, 247, 76, 42, 180, 0, 12, 182, 0, 26, 77, 44, 185, 0, 30, 1, 0]
abbrev dktX2_told_0 : List UInt8 := dkwX2_told_0 ++ dktX2_told_1
theorem dksX2_told_0 : cX2_told.data.toList.drop 0 = dktX2_told_0 := by decide +kernel
theorem dksX2_told_1 : cX2_told.data.toList.drop 22 = dktX2_told_1 := dk_seg dksX2_told_0 22 rfl rfl
theorem dksX2_told_2 : cX2_told.data.toList.drop 44 = dktX2_told_2 := dk_seg dksX2_told_1 22 rfl rfl
theorem dksX2_told_3 : cX2_told.data.toList.drop 67 = dktX2_told_3 := dk_seg dksX2_told_2 23 rfl rfl
theorem dX2_told_0 : decode cX2_told 0 = .ok (.new 245, 3) := dk_187 0 245 (dk_at dksX2_told_0 0 rfl rfl)
theorem dX2_told_3 : decode cX2_told 3 = .ok (.dup, 1) := dk_89 (dk_at dksX2_told_0 3 rfl rfl)
theorem dX2_told_4 : decode cX2_told 4 = .ok (.invokespecial 247, 3) := dk_183 0 247 (dk_at dksX2_told_0 4 rfl rfl)
theorem dX2_told_7 : decode cX2_told 7 = .ok (.astore_n 1, 1) := dk_76 (dk_at dksX2_told_0 7 rfl rfl)
theorem dX2_told_8 : decode cX2_told 8 = .ok (.aload_n 0, 1) := dk_42 (dk_at dksX2_told_0 8 rfl rfl)
theorem dX2_told_9 : decode cX2_told 9 = .ok (.getfield 12, 3) := dk_180 0 12 (dk_at dksX2_told_0 9 rfl rfl)
theorem dX2_told_12 : decode cX2_told 12 = .ok (.invokevirtual 26, 3) := dk_182 0 26 (dk_at dksX2_told_0 12 rfl rfl)
theorem dX2_told_15 : decode cX2_told 15 = .ok (.astore_n 2, 1) := dk_77 (dk_at dksX2_told_0 15 rfl rfl)
theorem dX2_told_16 : decode cX2_told 16 = .ok (.aload_n 2, 1) := dk_44 (dk_at dksX2_told_0 16 rfl rfl)
theorem dX2_told_17 : decode cX2_told 17 = .ok (.invokeinterface 30 1, 5) := by decide +kernel
theorem dX2_told_22 : decode cX2_told 22 = .ok (.ifCond .eq 59, 3) := dk_153 0 59 (dk_at dksX2_told_1 0 rfl rfl)
theorem dX2_told_25 : decode cX2_told 25 = .ok (.aload_n 2, 1) := dk_44 (dk_at dksX2_told_1 3 rfl rfl)
theorem dX2_told_26 : decode cX2_told 26 = .ok (.invokeinterface 36 1, 5) := by decide +kernel
theorem dX2_told_31 : decode cX2_told 31 = .ok (.checkcast 40, 3) := dk_192 0 40 (dk_at dksX2_told_1 9 rfl rfl)
theorem dX2_told_34 : decode cX2_told 34 = .ok (.astore_n 3, 1) := dk_78 (dk_at dksX2_told_1 12 rfl rfl)
theorem dX2_told_35 : decode cX2_told 35 = .ok (.aload_n 1, 1) := dk_43 (dk_at dksX2_told_1 13 rfl rfl)
theorem dX2_told_36 : decode cX2_told 36 = .ok (.aload_n 3, 1) := dk_45 (dk_at dksX2_told_1 14 rfl rfl)
theorem dX2_told_37 : decode cX2_told 37 = .ok (.getfield 107, 3) := dk_180 0 107 (dk_at dksX2_told_1 15 rfl rfl)
theorem dX2_told_40 : decode cX2_told 40 = .ok (.iconst (-1), 1) := dk_2 (dk_at dksX2_told_1 18 rfl rfl)
theorem dX2_told_41 : decode cX2_told 41 = .ok (.if_icmp .ne 9, 3) := dk_160 0 9 (dk_at dksX2_told_1 19 rfl rfl)
theorem dX2_told_44 : decode cX2_told 44 = .ok (.ldc_w 260, 3) := dk_19 1 4 (dk_at dksX2_told_2 0 rfl rfl)
theorem dX2_told_47 : decode cX2_told 47 = .ok (.goto 26, 3) := dk_167 0 26 (dk_at dksX2_told_2 3 rfl rfl)
theorem dX2_told_50 : decode cX2_told 50 = .ok (.new 245, 3) := dk_187 0 245 (dk_at dksX2_told_2 6 rfl rfl)
theorem dX2_told_53 : decode cX2_told 53 = .ok (.dup, 1) := dk_89 (dk_at dksX2_told_2 9 rfl rfl)
theorem dX2_told_54 : decode cX2_told 54 = .ok (.invokespecial 247, 3) := dk_183 0 247 (dk_at dksX2_told_2 10 rfl rfl)
theorem dX2_told_57 : decode cX2_told 57 = .ok (.ldc_w 262, 3) := dk_19 1 6 (dk_at dksX2_told_2 13 rfl rfl)
theorem dX2_told_60 : decode cX2_told 60 = .ok (.invokevirtual 264, 3) := dk_182 1 8 (dk_at dksX2_told_2 16 rfl rfl)
theorem dX2_told_63 : decode cX2_told 63 = .ok (.aload_n 3, 1) := dk_45 (dk_at dksX2_told_2 19 rfl rfl)
theorem dX2_told_64 : decode cX2_told 64 = .ok (.getfield 107, 3) := dk_180 0 107 (dk_at dksX2_told_2 20 rfl rfl)
theorem dX2_told_67 : decode cX2_told 67 = .ok (.invokevirtual 252, 3) := dk_182 0 252 (dk_at dksX2_told_3 0 rfl rfl)
theorem dX2_told_70 : decode cX2_told 70 = .ok (.invokevirtual 256, 3) := dk_182 1 0 (dk_at dksX2_told_3 3 rfl rfl)
theorem dX2_told_73 : decode cX2_told 73 = .ok (.invokevirtual 264, 3) := dk_182 1 8 (dk_at dksX2_told_3 6 rfl rfl)
theorem dX2_told_76 : decode cX2_told 76 = .ok (.astore 4, 2) := dk_58 4 (dk_at dksX2_told_3 9 rfl rfl)
theorem dX2_told_78 : decode cX2_told 78 = .ok (.goto (-62), 3) := dk_167 255 194 (dk_at dksX2_told_3 11 rfl rfl)
theorem dX2_told_81 : decode cX2_told 81 = .ok (.aload_n 1, 1) := dk_43 (dk_at dksX2_told_3 14 rfl rfl)
theorem dX2_told_82 : decode cX2_told 82 = .ok (.invokevirtual 256, 3) := dk_182 1 0 (dk_at dksX2_told_3 15 rfl rfl)
theorem dX2_told_85 : decode cX2_told 85 = .ok (.areturn, 1) := dk_176 (dk_at dksX2_told_3 18 rfl rfl)
abbrev cX2_come : ByteArray := prog_2_method_12_code
def yX2_come : MethodName := ⟨RX2, "come", "(III)I"⟩
def dkwX2_come_3 : List UInt8 := [181, 0, 107, 42, 180, 0, 12, 25, 4, 182, 0, 46, 54, 5, 42, 180, 0, 12, 182, 0, 79, 4, 100, 172]
abbrev dktX2_come_3 : List UInt8 := dkwX2_come_3 ++ []
def dkwX2_come_2 : List UInt8 := [184, 0, 130, 187, 0, 40, 89, 27, 28, 29, 183, 0, 136, 58, 4, 25, 4, 42, 25, 4, 182, 0, 111]
abbrev dktX2_come_2 : List UInt8 := dkwX2_come_2 ++ dktX2_come_3
def dkwX2_come_1 : List UInt8 := [184, 0, 127, 42, 180, 0, 12, 182, 0, 79, 16, 18, 162, 0, 7, 4, 167, 0, 4, 3, 4, 16, 18]
abbrev dktX2_come_1 : List UInt8 := dkwX2_come_1 ++ dktX2_come_2
def dkwX2_come_0 : List UInt8 := [5, 188, 10, 89, 3, 27, 79, 89, 4, 28, 79, 184, 0, 121, 29, 133, 10, 20, 0, 125, 184, 0, 83]
abbrev dktX2_come_0 : List UInt8 := dkwX2_come_0 ++ dktX2_come_1
theorem dksX2_come_0 : cX2_come.data.toList.drop 0 = dktX2_come_0 := by decide +kernel
theorem dksX2_come_1 : cX2_come.data.toList.drop 23 = dktX2_come_1 := dk_seg dksX2_come_0 23 rfl rfl
theorem dksX2_come_2 : cX2_come.data.toList.drop 46 = dktX2_come_2 := dk_seg dksX2_come_1 23 rfl rfl
theorem dksX2_come_3 : cX2_come.data.toList.drop 69 = dktX2_come_3 := dk_seg dksX2_come_2 23 rfl rfl
theorem dX2_come_0 : decode cX2_come 0 = .ok (.iconst 2, 1) := dk_5 (dk_at dksX2_come_0 0 rfl rfl)
theorem dX2_come_1 : decode cX2_come 1 = .ok (.newarray .int, 2) := dk_188_10 (dk_at dksX2_come_0 1 rfl rfl)
theorem dX2_come_3 : decode cX2_come 3 = .ok (.dup, 1) := dk_89 (dk_at dksX2_come_0 3 rfl rfl)
theorem dX2_come_4 : decode cX2_come 4 = .ok (.iconst 0, 1) := dk_3 (dk_at dksX2_come_0 4 rfl rfl)
theorem dX2_come_5 : decode cX2_come 5 = .ok (.iload_n 1, 1) := dk_27 (dk_at dksX2_come_0 5 rfl rfl)
theorem dX2_come_6 : decode cX2_come 6 = .ok (.iastore, 1) := dk_79 (dk_at dksX2_come_0 6 rfl rfl)
theorem dX2_come_7 : decode cX2_come 7 = .ok (.dup, 1) := dk_89 (dk_at dksX2_come_0 7 rfl rfl)
theorem dX2_come_8 : decode cX2_come 8 = .ok (.iconst 1, 1) := dk_4 (dk_at dksX2_come_0 8 rfl rfl)
theorem dX2_come_9 : decode cX2_come 9 = .ok (.iload_n 2, 1) := dk_28 (dk_at dksX2_come_0 9 rfl rfl)
theorem dX2_come_10 : decode cX2_come 10 = .ok (.iastore, 1) := dk_79 (dk_at dksX2_come_0 10 rfl rfl)
theorem dX2_come_11 : decode cX2_come 11 = .ok (.invokestatic 121, 3) := dk_184 0 121 (dk_at dksX2_come_0 11 rfl rfl)
theorem dX2_come_14 : decode cX2_come 14 = .ok (.iload_n 3, 1) := dk_29 (dk_at dksX2_come_0 14 rfl rfl)
theorem dX2_come_15 : decode cX2_come 15 = .ok (.i2l, 1) := dk_133 (dk_at dksX2_come_0 15 rfl rfl)
theorem dX2_come_16 : decode cX2_come 16 = .ok (.lconst 1, 1) := dk_10 (dk_at dksX2_come_0 16 rfl rfl)
theorem dX2_come_17 : decode cX2_come 17 = .ok (.ldc2_w 125, 3) := dk_20 0 125 (dk_at dksX2_come_0 17 rfl rfl)
theorem dX2_come_20 : decode cX2_come 20 = .ok (.invokestatic 83, 3) := dk_184 0 83 (dk_at dksX2_come_0 20 rfl rfl)
theorem dX2_come_23 : decode cX2_come 23 = .ok (.invokestatic 127, 3) := dk_184 0 127 (dk_at dksX2_come_1 0 rfl rfl)
theorem dX2_come_26 : decode cX2_come 26 = .ok (.aload_n 0, 1) := dk_42 (dk_at dksX2_come_1 3 rfl rfl)
theorem dX2_come_27 : decode cX2_come 27 = .ok (.getfield 12, 3) := dk_180 0 12 (dk_at dksX2_come_1 4 rfl rfl)
theorem dX2_come_30 : decode cX2_come 30 = .ok (.invokevirtual 79, 3) := dk_182 0 79 (dk_at dksX2_come_1 7 rfl rfl)
theorem dX2_come_33 : decode cX2_come 33 = .ok (.bipush 18, 2) := dk_16 18 (dk_at dksX2_come_1 10 rfl rfl)
theorem dX2_come_35 : decode cX2_come 35 = .ok (.if_icmp .ge 7, 3) := dk_162 0 7 (dk_at dksX2_come_1 12 rfl rfl)
theorem dX2_come_38 : decode cX2_come 38 = .ok (.iconst 1, 1) := dk_4 (dk_at dksX2_come_1 15 rfl rfl)
theorem dX2_come_39 : decode cX2_come 39 = .ok (.goto 4, 3) := dk_167 0 4 (dk_at dksX2_come_1 16 rfl rfl)
theorem dX2_come_42 : decode cX2_come 42 = .ok (.iconst 0, 1) := dk_3 (dk_at dksX2_come_1 19 rfl rfl)
theorem dX2_come_43 : decode cX2_come 43 = .ok (.iconst 1, 1) := dk_4 (dk_at dksX2_come_1 20 rfl rfl)
theorem dX2_come_44 : decode cX2_come 44 = .ok (.bipush 18, 2) := dk_16 18 (dk_at dksX2_come_1 21 rfl rfl)
theorem dX2_come_46 : decode cX2_come 46 = .ok (.invokestatic 130, 3) := dk_184 0 130 (dk_at dksX2_come_2 0 rfl rfl)
theorem dX2_come_49 : decode cX2_come 49 = .ok (.new 40, 3) := dk_187 0 40 (dk_at dksX2_come_2 3 rfl rfl)
theorem dX2_come_52 : decode cX2_come 52 = .ok (.dup, 1) := dk_89 (dk_at dksX2_come_2 6 rfl rfl)
theorem dX2_come_53 : decode cX2_come 53 = .ok (.iload_n 1, 1) := dk_27 (dk_at dksX2_come_2 7 rfl rfl)
theorem dX2_come_54 : decode cX2_come 54 = .ok (.iload_n 2, 1) := dk_28 (dk_at dksX2_come_2 8 rfl rfl)
theorem dX2_come_55 : decode cX2_come 55 = .ok (.iload_n 3, 1) := dk_29 (dk_at dksX2_come_2 9 rfl rfl)
theorem dX2_come_56 : decode cX2_come 56 = .ok (.invokespecial 136, 3) := dk_183 0 136 (dk_at dksX2_come_2 10 rfl rfl)
theorem dX2_come_59 : decode cX2_come 59 = .ok (.astore 4, 2) := dk_58 4 (dk_at dksX2_come_2 13 rfl rfl)
theorem dX2_come_61 : decode cX2_come 61 = .ok (.aload 4, 2) := dk_25 4 (dk_at dksX2_come_2 15 rfl rfl)
theorem dX2_come_63 : decode cX2_come 63 = .ok (.aload_n 0, 1) := dk_42 (dk_at dksX2_come_2 17 rfl rfl)
theorem dX2_come_64 : decode cX2_come 64 = .ok (.aload 4, 2) := dk_25 4 (dk_at dksX2_come_2 18 rfl rfl)
theorem dX2_come_66 : decode cX2_come 66 = .ok (.invokevirtual 111, 3) := dk_182 0 111 (dk_at dksX2_come_2 20 rfl rfl)
theorem dX2_come_69 : decode cX2_come 69 = .ok (.putfield 107, 3) := dk_181 0 107 (dk_at dksX2_come_3 0 rfl rfl)
theorem dX2_come_72 : decode cX2_come 72 = .ok (.aload_n 0, 1) := dk_42 (dk_at dksX2_come_3 3 rfl rfl)
theorem dX2_come_73 : decode cX2_come 73 = .ok (.getfield 12, 3) := dk_180 0 12 (dk_at dksX2_come_3 4 rfl rfl)
theorem dX2_come_76 : decode cX2_come 76 = .ok (.aload 4, 2) := dk_25 4 (dk_at dksX2_come_3 7 rfl rfl)
theorem dX2_come_78 : decode cX2_come 78 = .ok (.invokevirtual 46, 3) := dk_182 0 46 (dk_at dksX2_come_3 9 rfl rfl)
theorem dX2_come_81 : decode cX2_come 81 = .ok (.istore 5, 2) := dk_54 5 (dk_at dksX2_come_3 12 rfl rfl)
theorem dX2_come_83 : decode cX2_come 83 = .ok (.aload_n 0, 1) := dk_42 (dk_at dksX2_come_3 14 rfl rfl)
theorem dX2_come_84 : decode cX2_come 84 = .ok (.getfield 12, 3) := dk_180 0 12 (dk_at dksX2_come_3 15 rfl rfl)
theorem dX2_come_87 : decode cX2_come 87 = .ok (.invokevirtual 79, 3) := dk_182 0 79 (dk_at dksX2_come_3 18 rfl rfl)
theorem dX2_come_90 : decode cX2_come 90 = .ok (.iconst 1, 1) := dk_4 (dk_at dksX2_come_3 21 rfl rfl)
theorem dX2_come_91 : decode cX2_come 91 = .ok (.isub, 1) := dk_100 (dk_at dksX2_come_3 22 rfl rfl)
theorem dX2_come_92 : decode cX2_come 92 = .ok (.ireturn, 1) := dk_172 (dk_at dksX2_come_3 23 rfl rfl)
abbrev cX2_set : ByteArray := prog_2_method_14_code
def yX2_set : MethodName := ⟨RX2, "set", "(II)I"⟩
def dkwX2_set_3 : List UInt8 := [182, 0, 79, 4, 100, 172]
abbrev dktX2_set_3 : List UInt8 := dkwX2_set_3 ++ []
def dkwX2_set_2 : List UInt8 := [184, 0, 130, 42, 180, 0, 18, 187, 0, 50, 89, 45, 183, 0, 52, 182, 0, 46, 54, 4, 42, 180, 0, 18]
abbrev dktX2_set_2 : List UInt8 := dkwX2_set_2 ++ dktX2_set_3
def dkwX2_set_1 : List UInt8 := [182, 0, 146, 42, 180, 0, 18, 182, 0, 79, 16, 6, 162, 0, 7, 4, 167, 0, 4, 3, 4, 16, 6]
abbrev dktX2_set_1 : List UInt8 := dkwX2_set_1 ++ dktX2_set_2
def dkwX2_set_0 : List UInt8 := [5, 188, 10, 89, 3, 27, 79, 89, 4, 28, 79, 184, 0, 121, 27, 28, 184, 0, 142, 78, 42, 45]
abbrev dktX2_set_0 : List UInt8 := dkwX2_set_0 ++ dktX2_set_1
theorem dksX2_set_0 : cX2_set.data.toList.drop 0 = dktX2_set_0 := by decide +kernel
theorem dksX2_set_1 : cX2_set.data.toList.drop 22 = dktX2_set_1 := dk_seg dksX2_set_0 22 rfl rfl
theorem dksX2_set_2 : cX2_set.data.toList.drop 45 = dktX2_set_2 := dk_seg dksX2_set_1 23 rfl rfl
theorem dksX2_set_3 : cX2_set.data.toList.drop 69 = dktX2_set_3 := dk_seg dksX2_set_2 24 rfl rfl
theorem dX2_set_0 : decode cX2_set 0 = .ok (.iconst 2, 1) := dk_5 (dk_at dksX2_set_0 0 rfl rfl)
theorem dX2_set_1 : decode cX2_set 1 = .ok (.newarray .int, 2) := dk_188_10 (dk_at dksX2_set_0 1 rfl rfl)
theorem dX2_set_3 : decode cX2_set 3 = .ok (.dup, 1) := dk_89 (dk_at dksX2_set_0 3 rfl rfl)
theorem dX2_set_4 : decode cX2_set 4 = .ok (.iconst 0, 1) := dk_3 (dk_at dksX2_set_0 4 rfl rfl)
theorem dX2_set_5 : decode cX2_set 5 = .ok (.iload_n 1, 1) := dk_27 (dk_at dksX2_set_0 5 rfl rfl)
theorem dX2_set_6 : decode cX2_set 6 = .ok (.iastore, 1) := dk_79 (dk_at dksX2_set_0 6 rfl rfl)
theorem dX2_set_7 : decode cX2_set 7 = .ok (.dup, 1) := dk_89 (dk_at dksX2_set_0 7 rfl rfl)
theorem dX2_set_8 : decode cX2_set 8 = .ok (.iconst 1, 1) := dk_4 (dk_at dksX2_set_0 8 rfl rfl)
theorem dX2_set_9 : decode cX2_set 9 = .ok (.iload_n 2, 1) := dk_28 (dk_at dksX2_set_0 9 rfl rfl)
theorem dX2_set_10 : decode cX2_set 10 = .ok (.iastore, 1) := dk_79 (dk_at dksX2_set_0 10 rfl rfl)
theorem dX2_set_11 : decode cX2_set 11 = .ok (.invokestatic 121, 3) := dk_184 0 121 (dk_at dksX2_set_0 11 rfl rfl)
theorem dX2_set_14 : decode cX2_set 14 = .ok (.iload_n 1, 1) := dk_27 (dk_at dksX2_set_0 14 rfl rfl)
theorem dX2_set_15 : decode cX2_set 15 = .ok (.iload_n 2, 1) := dk_28 (dk_at dksX2_set_0 15 rfl rfl)
theorem dX2_set_16 : decode cX2_set 16 = .ok (.invokestatic 142, 3) := dk_184 0 142 (dk_at dksX2_set_0 16 rfl rfl)
theorem dX2_set_19 : decode cX2_set 19 = .ok (.astore_n 3, 1) := dk_78 (dk_at dksX2_set_0 19 rfl rfl)
theorem dX2_set_20 : decode cX2_set 20 = .ok (.aload_n 0, 1) := dk_42 (dk_at dksX2_set_0 20 rfl rfl)
theorem dX2_set_21 : decode cX2_set 21 = .ok (.aload_n 3, 1) := dk_45 (dk_at dksX2_set_0 21 rfl rfl)
theorem dX2_set_22 : decode cX2_set 22 = .ok (.invokevirtual 146, 3) := dk_182 0 146 (dk_at dksX2_set_1 0 rfl rfl)
theorem dX2_set_25 : decode cX2_set 25 = .ok (.aload_n 0, 1) := dk_42 (dk_at dksX2_set_1 3 rfl rfl)
theorem dX2_set_26 : decode cX2_set 26 = .ok (.getfield 18, 3) := dk_180 0 18 (dk_at dksX2_set_1 4 rfl rfl)
theorem dX2_set_29 : decode cX2_set 29 = .ok (.invokevirtual 79, 3) := dk_182 0 79 (dk_at dksX2_set_1 7 rfl rfl)
theorem dX2_set_32 : decode cX2_set 32 = .ok (.bipush 6, 2) := dk_16 6 (dk_at dksX2_set_1 10 rfl rfl)
theorem dX2_set_34 : decode cX2_set 34 = .ok (.if_icmp .ge 7, 3) := dk_162 0 7 (dk_at dksX2_set_1 12 rfl rfl)
theorem dX2_set_37 : decode cX2_set 37 = .ok (.iconst 1, 1) := dk_4 (dk_at dksX2_set_1 15 rfl rfl)
theorem dX2_set_38 : decode cX2_set 38 = .ok (.goto 4, 3) := dk_167 0 4 (dk_at dksX2_set_1 16 rfl rfl)
theorem dX2_set_41 : decode cX2_set 41 = .ok (.iconst 0, 1) := dk_3 (dk_at dksX2_set_1 19 rfl rfl)
theorem dX2_set_42 : decode cX2_set 42 = .ok (.iconst 1, 1) := dk_4 (dk_at dksX2_set_1 20 rfl rfl)
theorem dX2_set_43 : decode cX2_set 43 = .ok (.bipush 6, 2) := dk_16 6 (dk_at dksX2_set_1 21 rfl rfl)
theorem dX2_set_45 : decode cX2_set 45 = .ok (.invokestatic 130, 3) := dk_184 0 130 (dk_at dksX2_set_2 0 rfl rfl)
theorem dX2_set_48 : decode cX2_set 48 = .ok (.aload_n 0, 1) := dk_42 (dk_at dksX2_set_2 3 rfl rfl)
theorem dX2_set_49 : decode cX2_set 49 = .ok (.getfield 18, 3) := dk_180 0 18 (dk_at dksX2_set_2 4 rfl rfl)
theorem dX2_set_52 : decode cX2_set 52 = .ok (.new 50, 3) := dk_187 0 50 (dk_at dksX2_set_2 7 rfl rfl)
theorem dX2_set_55 : decode cX2_set 55 = .ok (.dup, 1) := dk_89 (dk_at dksX2_set_2 10 rfl rfl)
theorem dX2_set_56 : decode cX2_set 56 = .ok (.aload_n 3, 1) := dk_45 (dk_at dksX2_set_2 11 rfl rfl)
theorem dX2_set_57 : decode cX2_set 57 = .ok (.invokespecial 52, 3) := dk_183 0 52 (dk_at dksX2_set_2 12 rfl rfl)
theorem dX2_set_60 : decode cX2_set 60 = .ok (.invokevirtual 46, 3) := dk_182 0 46 (dk_at dksX2_set_2 15 rfl rfl)
theorem dX2_set_63 : decode cX2_set 63 = .ok (.istore 4, 2) := dk_54 4 (dk_at dksX2_set_2 18 rfl rfl)
theorem dX2_set_65 : decode cX2_set 65 = .ok (.aload_n 0, 1) := dk_42 (dk_at dksX2_set_2 20 rfl rfl)
theorem dX2_set_66 : decode cX2_set 66 = .ok (.getfield 18, 3) := dk_180 0 18 (dk_at dksX2_set_2 21 rfl rfl)
theorem dX2_set_69 : decode cX2_set 69 = .ok (.invokevirtual 79, 3) := dk_182 0 79 (dk_at dksX2_set_3 0 rfl rfl)
theorem dX2_set_72 : decode cX2_set 72 = .ok (.iconst 1, 1) := dk_4 (dk_at dksX2_set_3 3 rfl rfl)
theorem dX2_set_73 : decode cX2_set 73 = .ok (.isub, 1) := dk_100 (dk_at dksX2_set_3 4 rfl rfl)
theorem dX2_set_74 : decode cX2_set 74 = .ok (.ireturn, 1) := dk_172 (dk_at dksX2_set_3 5 rfl rfl)
abbrev cX2_checkFree : ByteArray := prog_2_method_13_code
def yX2_checkFree : MethodName := ⟨RX2, "checkFree", "(LFlockHuts$Placed;)V"⟩
def dkwX2_checkFree_0 : List UInt8 := [42, 43, 182, 0, 139, 61, 28, 2, 160, 0, 7, 4, 167, 0, 4, 3, 5, 28, 184, 0, 130, 177]
abbrev dktX2_checkFree_0 : List UInt8 := dkwX2_checkFree_0 ++ []
theorem dksX2_checkFree_0 : cX2_checkFree.data.toList.drop 0 = dktX2_checkFree_0 := by decide +kernel
theorem dX2_checkFree_0 : decode cX2_checkFree 0 = .ok (.aload_n 0, 1) := dk_42 (dk_at dksX2_checkFree_0 0 rfl rfl)
theorem dX2_checkFree_1 : decode cX2_checkFree 1 = .ok (.aload_n 1, 1) := dk_43 (dk_at dksX2_checkFree_0 1 rfl rfl)
theorem dX2_checkFree_2 : decode cX2_checkFree 2 = .ok (.invokevirtual 139, 3) := dk_182 0 139 (dk_at dksX2_checkFree_0 2 rfl rfl)
theorem dX2_checkFree_5 : decode cX2_checkFree 5 = .ok (.istore_n 2, 1) := dk_61 (dk_at dksX2_checkFree_0 5 rfl rfl)
theorem dX2_checkFree_6 : decode cX2_checkFree 6 = .ok (.iload_n 2, 1) := dk_28 (dk_at dksX2_checkFree_0 6 rfl rfl)
theorem dX2_checkFree_7 : decode cX2_checkFree 7 = .ok (.iconst (-1), 1) := dk_2 (dk_at dksX2_checkFree_0 7 rfl rfl)
theorem dX2_checkFree_8 : decode cX2_checkFree 8 = .ok (.if_icmp .ne 7, 3) := dk_160 0 7 (dk_at dksX2_checkFree_0 8 rfl rfl)
theorem dX2_checkFree_11 : decode cX2_checkFree 11 = .ok (.iconst 1, 1) := dk_4 (dk_at dksX2_checkFree_0 11 rfl rfl)
theorem dX2_checkFree_12 : decode cX2_checkFree 12 = .ok (.goto 4, 3) := dk_167 0 4 (dk_at dksX2_checkFree_0 12 rfl rfl)
theorem dX2_checkFree_15 : decode cX2_checkFree 15 = .ok (.iconst 0, 1) := dk_3 (dk_at dksX2_checkFree_0 15 rfl rfl)
theorem dX2_checkFree_16 : decode cX2_checkFree 16 = .ok (.iconst 2, 1) := dk_5 (dk_at dksX2_checkFree_0 16 rfl rfl)
theorem dX2_checkFree_17 : decode cX2_checkFree 17 = .ok (.iload_n 2, 1) := dk_28 (dk_at dksX2_checkFree_0 17 rfl rfl)
theorem dX2_checkFree_18 : decode cX2_checkFree 18 = .ok (.invokestatic 130, 3) := dk_184 0 130 (dk_at dksX2_checkFree_0 18 rfl rfl)
theorem dX2_checkFree_21 : decode cX2_checkFree 21 = .ok (.return_, 1) := dk_177 (dk_at dksX2_checkFree_0 21 rfl rfl)
abbrev cX2_hutAt : ByteArray := prog_2_method_11_code
def yX2_hutAt : MethodName := ⟨RX2, "hutAt", "(LFlockHuts$Placed;)I"⟩
def dkwX2_hutAt_1 : List UInt8 := [43, 182, 0, 117, 153, 0, 5, 28, 172, 132, 2, 1, 167, 255, 222, 2, 172]
abbrev dktX2_hutAt_1 : List UInt8 := dkwX2_hutAt_1 ++ []
def dkwX2_hutAt_0 : List UInt8 := [3, 61, 28, 42, 180, 0, 18, 182, 0, 79, 162, 0, 29, 42, 180, 0, 18, 28, 182, 0, 95, 192, 0, 50]
abbrev dktX2_hutAt_0 : List UInt8 := dkwX2_hutAt_0 ++ dktX2_hutAt_1
theorem dksX2_hutAt_0 : cX2_hutAt.data.toList.drop 0 = dktX2_hutAt_0 := by decide +kernel
theorem dksX2_hutAt_1 : cX2_hutAt.data.toList.drop 24 = dktX2_hutAt_1 := dk_seg dksX2_hutAt_0 24 rfl rfl
theorem dX2_hutAt_0 : decode cX2_hutAt 0 = .ok (.iconst 0, 1) := dk_3 (dk_at dksX2_hutAt_0 0 rfl rfl)
theorem dX2_hutAt_1 : decode cX2_hutAt 1 = .ok (.istore_n 2, 1) := dk_61 (dk_at dksX2_hutAt_0 1 rfl rfl)
theorem dX2_hutAt_2 : decode cX2_hutAt 2 = .ok (.iload_n 2, 1) := dk_28 (dk_at dksX2_hutAt_0 2 rfl rfl)
theorem dX2_hutAt_3 : decode cX2_hutAt 3 = .ok (.aload_n 0, 1) := dk_42 (dk_at dksX2_hutAt_0 3 rfl rfl)
theorem dX2_hutAt_4 : decode cX2_hutAt 4 = .ok (.getfield 18, 3) := dk_180 0 18 (dk_at dksX2_hutAt_0 4 rfl rfl)
theorem dX2_hutAt_7 : decode cX2_hutAt 7 = .ok (.invokevirtual 79, 3) := dk_182 0 79 (dk_at dksX2_hutAt_0 7 rfl rfl)
theorem dX2_hutAt_10 : decode cX2_hutAt 10 = .ok (.if_icmp .ge 29, 3) := dk_162 0 29 (dk_at dksX2_hutAt_0 10 rfl rfl)
theorem dX2_hutAt_13 : decode cX2_hutAt 13 = .ok (.aload_n 0, 1) := dk_42 (dk_at dksX2_hutAt_0 13 rfl rfl)
theorem dX2_hutAt_14 : decode cX2_hutAt 14 = .ok (.getfield 18, 3) := dk_180 0 18 (dk_at dksX2_hutAt_0 14 rfl rfl)
theorem dX2_hutAt_17 : decode cX2_hutAt 17 = .ok (.iload_n 2, 1) := dk_28 (dk_at dksX2_hutAt_0 17 rfl rfl)
theorem dX2_hutAt_18 : decode cX2_hutAt 18 = .ok (.invokevirtual 95, 3) := dk_182 0 95 (dk_at dksX2_hutAt_0 18 rfl rfl)
theorem dX2_hutAt_21 : decode cX2_hutAt 21 = .ok (.checkcast 50, 3) := dk_192 0 50 (dk_at dksX2_hutAt_0 21 rfl rfl)
theorem dX2_hutAt_24 : decode cX2_hutAt 24 = .ok (.aload_n 1, 1) := dk_43 (dk_at dksX2_hutAt_1 0 rfl rfl)
theorem dX2_hutAt_25 : decode cX2_hutAt 25 = .ok (.invokevirtual 117, 3) := dk_182 0 117 (dk_at dksX2_hutAt_1 1 rfl rfl)
theorem dX2_hutAt_28 : decode cX2_hutAt 28 = .ok (.ifCond .eq 5, 3) := dk_153 0 5 (dk_at dksX2_hutAt_1 4 rfl rfl)
theorem dX2_hutAt_31 : decode cX2_hutAt 31 = .ok (.iload_n 2, 1) := dk_28 (dk_at dksX2_hutAt_1 7 rfl rfl)
theorem dX2_hutAt_32 : decode cX2_hutAt 32 = .ok (.ireturn, 1) := dk_172 (dk_at dksX2_hutAt_1 8 rfl rfl)
theorem dX2_hutAt_33 : decode cX2_hutAt 33 = .ok (.iinc 2 1, 3) := dk_132 2 1 (dk_at dksX2_hutAt_1 9 rfl rfl)
theorem dX2_hutAt_36 : decode cX2_hutAt 36 = .ok (.goto (-34), 3) := dk_167 255 222 (dk_at dksX2_hutAt_1 12 rfl rfl)
theorem dX2_hutAt_39 : decode cX2_hutAt 39 = .ok (.iconst (-1), 1) := dk_2 (dk_at dksX2_hutAt_1 15 rfl rfl)
theorem dX2_hutAt_40 : decode cX2_hutAt 40 = .ok (.ireturn, 1) := dk_172 (dk_at dksX2_hutAt_1 16 rfl rfl)
abbrev cX2_leave : ByteArray := prog_2_method_15_code
def yX2_leave : MethodName := ⟨RX2, "leave", "(I)I"⟩
def dkwX2_leave_0 : List UInt8 := [42, 27, 182, 0, 149, 77, 42, 180, 0, 12, 44, 182, 0, 152, 62, 44, 180, 0, 107, 172]
abbrev dktX2_leave_0 : List UInt8 := dkwX2_leave_0 ++ []
theorem dksX2_leave_0 : cX2_leave.data.toList.drop 0 = dktX2_leave_0 := by decide +kernel
theorem dX2_leave_0 : decode cX2_leave 0 = .ok (.aload_n 0, 1) := dk_42 (dk_at dksX2_leave_0 0 rfl rfl)
theorem dX2_leave_1 : decode cX2_leave 1 = .ok (.iload_n 1, 1) := dk_27 (dk_at dksX2_leave_0 1 rfl rfl)
theorem dX2_leave_2 : decode cX2_leave 2 = .ok (.invokevirtual 149, 3) := dk_182 0 149 (dk_at dksX2_leave_0 2 rfl rfl)
theorem dX2_leave_5 : decode cX2_leave 5 = .ok (.astore_n 2, 1) := dk_77 (dk_at dksX2_leave_0 5 rfl rfl)
theorem dX2_leave_6 : decode cX2_leave 6 = .ok (.aload_n 0, 1) := dk_42 (dk_at dksX2_leave_0 6 rfl rfl)
theorem dX2_leave_7 : decode cX2_leave 7 = .ok (.getfield 12, 3) := dk_180 0 12 (dk_at dksX2_leave_0 7 rfl rfl)
theorem dX2_leave_10 : decode cX2_leave 10 = .ok (.aload_n 2, 1) := dk_44 (dk_at dksX2_leave_0 10 rfl rfl)
theorem dX2_leave_11 : decode cX2_leave 11 = .ok (.invokevirtual 152, 3) := dk_182 0 152 (dk_at dksX2_leave_0 11 rfl rfl)
theorem dX2_leave_14 : decode cX2_leave 14 = .ok (.istore_n 3, 1) := dk_62 (dk_at dksX2_leave_0 14 rfl rfl)
theorem dX2_leave_15 : decode cX2_leave 15 = .ok (.aload_n 2, 1) := dk_44 (dk_at dksX2_leave_0 15 rfl rfl)
theorem dX2_leave_16 : decode cX2_leave 16 = .ok (.getfield 107, 3) := dk_180 0 107 (dk_at dksX2_leave_0 16 rfl rfl)
theorem dX2_leave_19 : decode cX2_leave 19 = .ok (.ireturn, 1) := dk_172 (dk_at dksX2_leave_0 19 rfl rfl)
abbrev cX2_sheep : ByteArray := prog_2_method_6_code
def yX2_sheep : MethodName := ⟨RX2, "sheep", "(I)LFlockHuts$Sheep;"⟩
def dkwX2_sheep_1 : List UInt8 := [182, 0, 95, 192, 0, 40, 176]
abbrev dktX2_sheep_1 : List UInt8 := dkwX2_sheep_1 ++ []
def dkwX2_sheep_0 : List UInt8 := [27, 133, 9, 42, 180, 0, 12, 182, 0, 79, 4, 100, 133, 184, 0, 83, 184, 0, 87, 42, 180, 0, 12, 27]
abbrev dktX2_sheep_0 : List UInt8 := dkwX2_sheep_0 ++ dktX2_sheep_1
theorem dksX2_sheep_0 : cX2_sheep.data.toList.drop 0 = dktX2_sheep_0 := by decide +kernel
theorem dksX2_sheep_1 : cX2_sheep.data.toList.drop 24 = dktX2_sheep_1 := dk_seg dksX2_sheep_0 24 rfl rfl
theorem dX2_sheep_0 : decode cX2_sheep 0 = .ok (.iload_n 1, 1) := dk_27 (dk_at dksX2_sheep_0 0 rfl rfl)
theorem dX2_sheep_1 : decode cX2_sheep 1 = .ok (.i2l, 1) := dk_133 (dk_at dksX2_sheep_0 1 rfl rfl)
theorem dX2_sheep_2 : decode cX2_sheep 2 = .ok (.lconst 0, 1) := dk_9 (dk_at dksX2_sheep_0 2 rfl rfl)
theorem dX2_sheep_3 : decode cX2_sheep 3 = .ok (.aload_n 0, 1) := dk_42 (dk_at dksX2_sheep_0 3 rfl rfl)
theorem dX2_sheep_4 : decode cX2_sheep 4 = .ok (.getfield 12, 3) := dk_180 0 12 (dk_at dksX2_sheep_0 4 rfl rfl)
theorem dX2_sheep_7 : decode cX2_sheep 7 = .ok (.invokevirtual 79, 3) := dk_182 0 79 (dk_at dksX2_sheep_0 7 rfl rfl)
theorem dX2_sheep_10 : decode cX2_sheep 10 = .ok (.iconst 1, 1) := dk_4 (dk_at dksX2_sheep_0 10 rfl rfl)
theorem dX2_sheep_11 : decode cX2_sheep 11 = .ok (.isub, 1) := dk_100 (dk_at dksX2_sheep_0 11 rfl rfl)
theorem dX2_sheep_12 : decode cX2_sheep 12 = .ok (.i2l, 1) := dk_133 (dk_at dksX2_sheep_0 12 rfl rfl)
theorem dX2_sheep_13 : decode cX2_sheep 13 = .ok (.invokestatic 83, 3) := dk_184 0 83 (dk_at dksX2_sheep_0 13 rfl rfl)
theorem dX2_sheep_16 : decode cX2_sheep 16 = .ok (.invokestatic 87, 3) := dk_184 0 87 (dk_at dksX2_sheep_0 16 rfl rfl)
theorem dX2_sheep_19 : decode cX2_sheep 19 = .ok (.aload_n 0, 1) := dk_42 (dk_at dksX2_sheep_0 19 rfl rfl)
theorem dX2_sheep_20 : decode cX2_sheep 20 = .ok (.getfield 12, 3) := dk_180 0 12 (dk_at dksX2_sheep_0 20 rfl rfl)
theorem dX2_sheep_23 : decode cX2_sheep 23 = .ok (.iload_n 1, 1) := dk_27 (dk_at dksX2_sheep_0 23 rfl rfl)
theorem dX2_sheep_24 : decode cX2_sheep 24 = .ok (.invokevirtual 95, 3) := dk_182 0 95 (dk_at dksX2_sheep_1 0 rfl rfl)
theorem dX2_sheep_27 : decode cX2_sheep 27 = .ok (.checkcast 40, 3) := dk_192 0 40 (dk_at dksX2_sheep_1 3 rfl rfl)
theorem dX2_sheep_30 : decode cX2_sheep 30 = .ok (.areturn, 1) := dk_176 (dk_at dksX2_sheep_1 6 rfl rfl)
abbrev cX2_strike : ByteArray := prog_2_method_17_code
def yX2_strike : MethodName := ⟨RX2, "strike", "(I)I"⟩
def dkwX2_strike_4 : List UInt8 := [182, 0, 166, 192, 0, 50, 78, 28, 172]
abbrev dktX2_strike_4 : List UInt8 := dkwX2_strike_4 ++ []
def dkwX2_strike_3 : List UInt8 := [29, 42, 180, 0, 21, 29, 46, 27, 184, 0, 162, 79, 132, 3, 1, 167, 255, 232, 42, 180, 0, 18, 27]
abbrev dktX2_strike_3 : List UInt8 := dkwX2_strike_3 ++ dktX2_strike_4
def dkwX2_strike_2 : List UInt8 := [180, 0, 107, 27, 184, 0, 162, 181, 0, 107, 167, 255, 222, 3, 62, 29, 6, 162, 0, 25, 42, 180, 0, 21]
abbrev dktX2_strike_2 : List UInt8 := dkwX2_strike_2 ++ dktX2_strike_3
def dkwX2_strike_1 : List UInt8 := [185, 0, 30, 1, 0, 153, 0, 31, 45, 185, 0, 36, 1, 0, 192, 0, 40, 58, 4, 25, 4, 25, 4]
abbrev dktX2_strike_1 : List UInt8 := dkwX2_strike_1 ++ dktX2_strike_2
def dkwX2_strike_0 : List UInt8 := [42, 27, 182, 0, 91, 42, 27, 182, 0, 155, 182, 0, 159, 61, 42, 180, 0, 12, 182, 0, 26, 78, 45]
abbrev dktX2_strike_0 : List UInt8 := dkwX2_strike_0 ++ dktX2_strike_1
theorem dksX2_strike_0 : cX2_strike.data.toList.drop 0 = dktX2_strike_0 := by decide +kernel
theorem dksX2_strike_1 : cX2_strike.data.toList.drop 23 = dktX2_strike_1 := dk_seg dksX2_strike_0 23 rfl rfl
theorem dksX2_strike_2 : cX2_strike.data.toList.drop 46 = dktX2_strike_2 := dk_seg dksX2_strike_1 23 rfl rfl
theorem dksX2_strike_3 : cX2_strike.data.toList.drop 70 = dktX2_strike_3 := dk_seg dksX2_strike_2 24 rfl rfl
theorem dksX2_strike_4 : cX2_strike.data.toList.drop 93 = dktX2_strike_4 := dk_seg dksX2_strike_3 23 rfl rfl
theorem dX2_strike_0 : decode cX2_strike 0 = .ok (.aload_n 0, 1) := dk_42 (dk_at dksX2_strike_0 0 rfl rfl)
theorem dX2_strike_1 : decode cX2_strike 1 = .ok (.iload_n 1, 1) := dk_27 (dk_at dksX2_strike_0 1 rfl rfl)
theorem dX2_strike_2 : decode cX2_strike 2 = .ok (.invokevirtual 91, 3) := dk_182 0 91 (dk_at dksX2_strike_0 2 rfl rfl)
theorem dX2_strike_5 : decode cX2_strike 5 = .ok (.aload_n 0, 1) := dk_42 (dk_at dksX2_strike_0 5 rfl rfl)
theorem dX2_strike_6 : decode cX2_strike 6 = .ok (.iload_n 1, 1) := dk_27 (dk_at dksX2_strike_0 6 rfl rfl)
theorem dX2_strike_7 : decode cX2_strike 7 = .ok (.invokevirtual 155, 3) := dk_182 0 155 (dk_at dksX2_strike_0 7 rfl rfl)
theorem dX2_strike_10 : decode cX2_strike 10 = .ok (.invokevirtual 159, 3) := dk_182 0 159 (dk_at dksX2_strike_0 10 rfl rfl)
theorem dX2_strike_13 : decode cX2_strike 13 = .ok (.istore_n 2, 1) := dk_61 (dk_at dksX2_strike_0 13 rfl rfl)
theorem dX2_strike_14 : decode cX2_strike 14 = .ok (.aload_n 0, 1) := dk_42 (dk_at dksX2_strike_0 14 rfl rfl)
theorem dX2_strike_15 : decode cX2_strike 15 = .ok (.getfield 12, 3) := dk_180 0 12 (dk_at dksX2_strike_0 15 rfl rfl)
theorem dX2_strike_18 : decode cX2_strike 18 = .ok (.invokevirtual 26, 3) := dk_182 0 26 (dk_at dksX2_strike_0 18 rfl rfl)
theorem dX2_strike_21 : decode cX2_strike 21 = .ok (.astore_n 3, 1) := dk_78 (dk_at dksX2_strike_0 21 rfl rfl)
theorem dX2_strike_22 : decode cX2_strike 22 = .ok (.aload_n 3, 1) := dk_45 (dk_at dksX2_strike_0 22 rfl rfl)
theorem dX2_strike_23 : decode cX2_strike 23 = .ok (.invokeinterface 30 1, 5) := by decide +kernel
theorem dX2_strike_28 : decode cX2_strike 28 = .ok (.ifCond .eq 31, 3) := dk_153 0 31 (dk_at dksX2_strike_1 5 rfl rfl)
theorem dX2_strike_31 : decode cX2_strike 31 = .ok (.aload_n 3, 1) := dk_45 (dk_at dksX2_strike_1 8 rfl rfl)
theorem dX2_strike_32 : decode cX2_strike 32 = .ok (.invokeinterface 36 1, 5) := by decide +kernel
theorem dX2_strike_37 : decode cX2_strike 37 = .ok (.checkcast 40, 3) := dk_192 0 40 (dk_at dksX2_strike_1 14 rfl rfl)
theorem dX2_strike_40 : decode cX2_strike 40 = .ok (.astore 4, 2) := dk_58 4 (dk_at dksX2_strike_1 17 rfl rfl)
theorem dX2_strike_42 : decode cX2_strike 42 = .ok (.aload 4, 2) := dk_25 4 (dk_at dksX2_strike_1 19 rfl rfl)
theorem dX2_strike_44 : decode cX2_strike 44 = .ok (.aload 4, 2) := dk_25 4 (dk_at dksX2_strike_1 21 rfl rfl)
theorem dX2_strike_46 : decode cX2_strike 46 = .ok (.getfield 107, 3) := dk_180 0 107 (dk_at dksX2_strike_2 0 rfl rfl)
theorem dX2_strike_49 : decode cX2_strike 49 = .ok (.iload_n 1, 1) := dk_27 (dk_at dksX2_strike_2 3 rfl rfl)
theorem dX2_strike_50 : decode cX2_strike 50 = .ok (.invokestatic 162, 3) := dk_184 0 162 (dk_at dksX2_strike_2 4 rfl rfl)
theorem dX2_strike_53 : decode cX2_strike 53 = .ok (.putfield 107, 3) := dk_181 0 107 (dk_at dksX2_strike_2 7 rfl rfl)
theorem dX2_strike_56 : decode cX2_strike 56 = .ok (.goto (-34), 3) := dk_167 255 222 (dk_at dksX2_strike_2 10 rfl rfl)
theorem dX2_strike_59 : decode cX2_strike 59 = .ok (.iconst 0, 1) := dk_3 (dk_at dksX2_strike_2 13 rfl rfl)
theorem dX2_strike_60 : decode cX2_strike 60 = .ok (.istore_n 3, 1) := dk_62 (dk_at dksX2_strike_2 14 rfl rfl)
theorem dX2_strike_61 : decode cX2_strike 61 = .ok (.iload_n 3, 1) := dk_29 (dk_at dksX2_strike_2 15 rfl rfl)
theorem dX2_strike_62 : decode cX2_strike 62 = .ok (.iconst 3, 1) := dk_6 (dk_at dksX2_strike_2 16 rfl rfl)
theorem dX2_strike_63 : decode cX2_strike 63 = .ok (.if_icmp .ge 25, 3) := dk_162 0 25 (dk_at dksX2_strike_2 17 rfl rfl)
theorem dX2_strike_66 : decode cX2_strike 66 = .ok (.aload_n 0, 1) := dk_42 (dk_at dksX2_strike_2 20 rfl rfl)
theorem dX2_strike_67 : decode cX2_strike 67 = .ok (.getfield 21, 3) := dk_180 0 21 (dk_at dksX2_strike_2 21 rfl rfl)
theorem dX2_strike_70 : decode cX2_strike 70 = .ok (.iload_n 3, 1) := dk_29 (dk_at dksX2_strike_3 0 rfl rfl)
theorem dX2_strike_71 : decode cX2_strike 71 = .ok (.aload_n 0, 1) := dk_42 (dk_at dksX2_strike_3 1 rfl rfl)
theorem dX2_strike_72 : decode cX2_strike 72 = .ok (.getfield 21, 3) := dk_180 0 21 (dk_at dksX2_strike_3 2 rfl rfl)
theorem dX2_strike_75 : decode cX2_strike 75 = .ok (.iload_n 3, 1) := dk_29 (dk_at dksX2_strike_3 5 rfl rfl)
theorem dX2_strike_76 : decode cX2_strike 76 = .ok (.iaload, 1) := dk_46 (dk_at dksX2_strike_3 6 rfl rfl)
theorem dX2_strike_77 : decode cX2_strike 77 = .ok (.iload_n 1, 1) := dk_27 (dk_at dksX2_strike_3 7 rfl rfl)
theorem dX2_strike_78 : decode cX2_strike 78 = .ok (.invokestatic 162, 3) := dk_184 0 162 (dk_at dksX2_strike_3 8 rfl rfl)
theorem dX2_strike_81 : decode cX2_strike 81 = .ok (.iastore, 1) := dk_79 (dk_at dksX2_strike_3 11 rfl rfl)
theorem dX2_strike_82 : decode cX2_strike 82 = .ok (.iinc 3 1, 3) := dk_132 3 1 (dk_at dksX2_strike_3 12 rfl rfl)
theorem dX2_strike_85 : decode cX2_strike 85 = .ok (.goto (-24), 3) := dk_167 255 232 (dk_at dksX2_strike_3 15 rfl rfl)
theorem dX2_strike_88 : decode cX2_strike 88 = .ok (.aload_n 0, 1) := dk_42 (dk_at dksX2_strike_3 18 rfl rfl)
theorem dX2_strike_89 : decode cX2_strike 89 = .ok (.getfield 18, 3) := dk_180 0 18 (dk_at dksX2_strike_3 19 rfl rfl)
theorem dX2_strike_92 : decode cX2_strike 92 = .ok (.iload_n 1, 1) := dk_27 (dk_at dksX2_strike_3 22 rfl rfl)
theorem dX2_strike_93 : decode cX2_strike 93 = .ok (.invokevirtual 166, 3) := dk_182 0 166 (dk_at dksX2_strike_4 0 rfl rfl)
theorem dX2_strike_96 : decode cX2_strike 96 = .ok (.checkcast 50, 3) := dk_192 0 50 (dk_at dksX2_strike_4 3 rfl rfl)
theorem dX2_strike_99 : decode cX2_strike 99 = .ok (.astore_n 3, 1) := dk_78 (dk_at dksX2_strike_4 6 rfl rfl)
theorem dX2_strike_100 : decode cX2_strike 100 = .ok (.iload_n 2, 1) := dk_28 (dk_at dksX2_strike_4 7 rfl rfl)
theorem dX2_strike_101 : decode cX2_strike 101 = .ok (.ireturn, 1) := dk_172 (dk_at dksX2_strike_4 8 rfl rfl)
abbrev cX2_checkHut : ByteArray := prog_2_method_4_code
def yX2_checkHut : MethodName := ⟨RX2, "checkHut", "(I)V"⟩
def dkwX2_checkHut_0 : List UInt8 := [27, 133, 9, 42, 180, 0, 18, 182, 0, 79, 4, 100, 133, 184, 0, 83, 184, 0, 87, 177]
abbrev dktX2_checkHut_0 : List UInt8 := dkwX2_checkHut_0 ++ []
theorem dksX2_checkHut_0 : cX2_checkHut.data.toList.drop 0 = dktX2_checkHut_0 := by decide +kernel
theorem dX2_checkHut_0 : decode cX2_checkHut 0 = .ok (.iload_n 1, 1) := dk_27 (dk_at dksX2_checkHut_0 0 rfl rfl)
theorem dX2_checkHut_1 : decode cX2_checkHut 1 = .ok (.i2l, 1) := dk_133 (dk_at dksX2_checkHut_0 1 rfl rfl)
theorem dX2_checkHut_2 : decode cX2_checkHut 2 = .ok (.lconst 0, 1) := dk_9 (dk_at dksX2_checkHut_0 2 rfl rfl)
theorem dX2_checkHut_3 : decode cX2_checkHut 3 = .ok (.aload_n 0, 1) := dk_42 (dk_at dksX2_checkHut_0 3 rfl rfl)
theorem dX2_checkHut_4 : decode cX2_checkHut 4 = .ok (.getfield 18, 3) := dk_180 0 18 (dk_at dksX2_checkHut_0 4 rfl rfl)
theorem dX2_checkHut_7 : decode cX2_checkHut 7 = .ok (.invokevirtual 79, 3) := dk_182 0 79 (dk_at dksX2_checkHut_0 7 rfl rfl)
theorem dX2_checkHut_10 : decode cX2_checkHut 10 = .ok (.iconst 1, 1) := dk_4 (dk_at dksX2_checkHut_0 10 rfl rfl)
theorem dX2_checkHut_11 : decode cX2_checkHut 11 = .ok (.isub, 1) := dk_100 (dk_at dksX2_checkHut_0 11 rfl rfl)
theorem dX2_checkHut_12 : decode cX2_checkHut 12 = .ok (.i2l, 1) := dk_133 (dk_at dksX2_checkHut_0 12 rfl rfl)
theorem dX2_checkHut_13 : decode cX2_checkHut 13 = .ok (.invokestatic 83, 3) := dk_184 0 83 (dk_at dksX2_checkHut_0 13 rfl rfl)
theorem dX2_checkHut_16 : decode cX2_checkHut 16 = .ok (.invokestatic 87, 3) := dk_184 0 87 (dk_at dksX2_checkHut_0 16 rfl rfl)
theorem dX2_checkHut_19 : decode cX2_checkHut 19 = .ok (.return_, 1) := dk_177 (dk_at dksX2_checkHut_0 19 rfl rfl)
abbrev cX2_without : ByteArray := prog_2_method_16_code
def yX2_without : MethodName := ⟨RX2, "without", "(II)I"⟩
def dkwX2_without_0 : List UInt8 := [26, 27, 160, 0, 7, 2, 167, 0, 15, 26, 27, 164, 0, 9, 26, 4, 100, 167, 0, 4, 26, 172]
abbrev dktX2_without_0 : List UInt8 := dkwX2_without_0 ++ []
theorem dksX2_without_0 : cX2_without.data.toList.drop 0 = dktX2_without_0 := by decide +kernel
theorem dX2_without_0 : decode cX2_without 0 = .ok (.iload_n 0, 1) := dk_26 (dk_at dksX2_without_0 0 rfl rfl)
theorem dX2_without_1 : decode cX2_without 1 = .ok (.iload_n 1, 1) := dk_27 (dk_at dksX2_without_0 1 rfl rfl)
theorem dX2_without_2 : decode cX2_without 2 = .ok (.if_icmp .ne 7, 3) := dk_160 0 7 (dk_at dksX2_without_0 2 rfl rfl)
theorem dX2_without_5 : decode cX2_without 5 = .ok (.iconst (-1), 1) := dk_2 (dk_at dksX2_without_0 5 rfl rfl)
theorem dX2_without_6 : decode cX2_without 6 = .ok (.goto 15, 3) := dk_167 0 15 (dk_at dksX2_without_0 6 rfl rfl)
theorem dX2_without_9 : decode cX2_without 9 = .ok (.iload_n 0, 1) := dk_26 (dk_at dksX2_without_0 9 rfl rfl)
theorem dX2_without_10 : decode cX2_without 10 = .ok (.iload_n 1, 1) := dk_27 (dk_at dksX2_without_0 10 rfl rfl)
theorem dX2_without_11 : decode cX2_without 11 = .ok (.if_icmp .le 9, 3) := dk_164 0 9 (dk_at dksX2_without_0 11 rfl rfl)
theorem dX2_without_14 : decode cX2_without 14 = .ok (.iload_n 0, 1) := dk_26 (dk_at dksX2_without_0 14 rfl rfl)
theorem dX2_without_15 : decode cX2_without 15 = .ok (.iconst 1, 1) := dk_4 (dk_at dksX2_without_0 15 rfl rfl)
theorem dX2_without_16 : decode cX2_without 16 = .ok (.isub, 1) := dk_100 (dk_at dksX2_without_0 16 rfl rfl)
theorem dX2_without_17 : decode cX2_without 17 = .ok (.goto 4, 3) := dk_167 0 4 (dk_at dksX2_without_0 17 rfl rfl)
theorem dX2_without_20 : decode cX2_without 20 = .ok (.iload_n 0, 1) := dk_26 (dk_at dksX2_without_0 20 rfl rfl)
theorem dX2_without_21 : decode cX2_without 21 = .ok (.ireturn, 1) := dk_172 (dk_at dksX2_without_0 21 rfl rfl)
abbrev cX2_move : ByteArray := prog_2_method_18_code
def yX2_move : MethodName := ⟨RX2, "move", "(III)I"⟩
def dkwX2_move_2 : List UInt8 := [25, 4, 182, 0, 168, 54, 6, 25, 5, 25, 4, 182, 0, 169, 21, 6, 172]
abbrev dktX2_move_2 : List UInt8 := dkwX2_move_2 ++ []
def dkwX2_move_1 : List UInt8 := [58, 4, 42, 25, 4, 182, 0, 146, 42, 180, 0, 18, 27, 182, 0, 95, 192, 0, 50, 58, 5, 25, 5]
abbrev dktX2_move_1 : List UInt8 := dkwX2_move_1 ++ dktX2_move_2
def dkwX2_move_0 : List UInt8 := [42, 27, 182, 0, 91, 5, 188, 10, 89, 3, 28, 79, 89, 4, 29, 79, 184, 0, 121, 28, 29, 184, 0, 142]
abbrev dktX2_move_0 : List UInt8 := dkwX2_move_0 ++ dktX2_move_1
theorem dksX2_move_0 : cX2_move.data.toList.drop 0 = dktX2_move_0 := by decide +kernel
theorem dksX2_move_1 : cX2_move.data.toList.drop 24 = dktX2_move_1 := dk_seg dksX2_move_0 24 rfl rfl
theorem dksX2_move_2 : cX2_move.data.toList.drop 47 = dktX2_move_2 := dk_seg dksX2_move_1 23 rfl rfl
theorem dX2_move_0 : decode cX2_move 0 = .ok (.aload_n 0, 1) := dk_42 (dk_at dksX2_move_0 0 rfl rfl)
theorem dX2_move_1 : decode cX2_move 1 = .ok (.iload_n 1, 1) := dk_27 (dk_at dksX2_move_0 1 rfl rfl)
theorem dX2_move_2 : decode cX2_move 2 = .ok (.invokevirtual 91, 3) := dk_182 0 91 (dk_at dksX2_move_0 2 rfl rfl)
theorem dX2_move_5 : decode cX2_move 5 = .ok (.iconst 2, 1) := dk_5 (dk_at dksX2_move_0 5 rfl rfl)
theorem dX2_move_6 : decode cX2_move 6 = .ok (.newarray .int, 2) := dk_188_10 (dk_at dksX2_move_0 6 rfl rfl)
theorem dX2_move_8 : decode cX2_move 8 = .ok (.dup, 1) := dk_89 (dk_at dksX2_move_0 8 rfl rfl)
theorem dX2_move_9 : decode cX2_move 9 = .ok (.iconst 0, 1) := dk_3 (dk_at dksX2_move_0 9 rfl rfl)
theorem dX2_move_10 : decode cX2_move 10 = .ok (.iload_n 2, 1) := dk_28 (dk_at dksX2_move_0 10 rfl rfl)
theorem dX2_move_11 : decode cX2_move 11 = .ok (.iastore, 1) := dk_79 (dk_at dksX2_move_0 11 rfl rfl)
theorem dX2_move_12 : decode cX2_move 12 = .ok (.dup, 1) := dk_89 (dk_at dksX2_move_0 12 rfl rfl)
theorem dX2_move_13 : decode cX2_move 13 = .ok (.iconst 1, 1) := dk_4 (dk_at dksX2_move_0 13 rfl rfl)
theorem dX2_move_14 : decode cX2_move 14 = .ok (.iload_n 3, 1) := dk_29 (dk_at dksX2_move_0 14 rfl rfl)
theorem dX2_move_15 : decode cX2_move 15 = .ok (.iastore, 1) := dk_79 (dk_at dksX2_move_0 15 rfl rfl)
theorem dX2_move_16 : decode cX2_move 16 = .ok (.invokestatic 121, 3) := dk_184 0 121 (dk_at dksX2_move_0 16 rfl rfl)
theorem dX2_move_19 : decode cX2_move 19 = .ok (.iload_n 2, 1) := dk_28 (dk_at dksX2_move_0 19 rfl rfl)
theorem dX2_move_20 : decode cX2_move 20 = .ok (.iload_n 3, 1) := dk_29 (dk_at dksX2_move_0 20 rfl rfl)
theorem dX2_move_21 : decode cX2_move 21 = .ok (.invokestatic 142, 3) := dk_184 0 142 (dk_at dksX2_move_0 21 rfl rfl)
theorem dX2_move_24 : decode cX2_move 24 = .ok (.astore 4, 2) := dk_58 4 (dk_at dksX2_move_1 0 rfl rfl)
theorem dX2_move_26 : decode cX2_move 26 = .ok (.aload_n 0, 1) := dk_42 (dk_at dksX2_move_1 2 rfl rfl)
theorem dX2_move_27 : decode cX2_move 27 = .ok (.aload 4, 2) := dk_25 4 (dk_at dksX2_move_1 3 rfl rfl)
theorem dX2_move_29 : decode cX2_move 29 = .ok (.invokevirtual 146, 3) := dk_182 0 146 (dk_at dksX2_move_1 5 rfl rfl)
theorem dX2_move_32 : decode cX2_move 32 = .ok (.aload_n 0, 1) := dk_42 (dk_at dksX2_move_1 8 rfl rfl)
theorem dX2_move_33 : decode cX2_move 33 = .ok (.getfield 18, 3) := dk_180 0 18 (dk_at dksX2_move_1 9 rfl rfl)
theorem dX2_move_36 : decode cX2_move 36 = .ok (.iload_n 1, 1) := dk_27 (dk_at dksX2_move_1 12 rfl rfl)
theorem dX2_move_37 : decode cX2_move 37 = .ok (.invokevirtual 95, 3) := dk_182 0 95 (dk_at dksX2_move_1 13 rfl rfl)
theorem dX2_move_40 : decode cX2_move 40 = .ok (.checkcast 50, 3) := dk_192 0 50 (dk_at dksX2_move_1 16 rfl rfl)
theorem dX2_move_43 : decode cX2_move 43 = .ok (.astore 5, 2) := dk_58 5 (dk_at dksX2_move_1 19 rfl rfl)
theorem dX2_move_45 : decode cX2_move 45 = .ok (.aload 5, 2) := dk_25 5 (dk_at dksX2_move_1 21 rfl rfl)
theorem dX2_move_47 : decode cX2_move 47 = .ok (.aload 4, 2) := dk_25 4 (dk_at dksX2_move_2 0 rfl rfl)
theorem dX2_move_49 : decode cX2_move 49 = .ok (.invokevirtual 168, 3) := dk_182 0 168 (dk_at dksX2_move_2 2 rfl rfl)
theorem dX2_move_52 : decode cX2_move 52 = .ok (.istore 6, 2) := dk_54 6 (dk_at dksX2_move_2 5 rfl rfl)
theorem dX2_move_54 : decode cX2_move 54 = .ok (.aload 5, 2) := dk_25 5 (dk_at dksX2_move_2 7 rfl rfl)
theorem dX2_move_56 : decode cX2_move 56 = .ok (.aload 4, 2) := dk_25 4 (dk_at dksX2_move_2 9 rfl rfl)
theorem dX2_move_58 : decode cX2_move 58 = .ok (.invokevirtual 169, 3) := dk_182 0 169 (dk_at dksX2_move_2 11 rfl rfl)
theorem dX2_move_61 : decode cX2_move 61 = .ok (.iload 6, 2) := dk_21 6 (dk_at dksX2_move_2 14 rfl rfl)
theorem dX2_move_63 : decode cX2_move 63 = .ok (.ireturn, 1) := dk_172 (dk_at dksX2_move_2 16 rfl rfl)
abbrev cX2_weigh : ByteArray := prog_2_method_19_code
def yX2_weigh : MethodName := ⟨RX2, "weigh", "(II)I"⟩
def dkwX2_weigh_2 : List UInt8 := [21, 4, 172]
abbrev dktX2_weigh_2 : List UInt8 := dkwX2_weigh_2 ++ []
def dkwX2_weigh_1 : List UInt8 := [21, 4, 28, 159, 0, 7, 4, 167, 0, 4, 3, 16, 7, 21, 4, 184, 0, 130, 45, 28, 181, 0, 172]
abbrev dktX2_weigh_1 : List UInt8 := dkwX2_weigh_1 ++ dktX2_weigh_2
def dkwX2_weigh_0 : List UInt8 := [42, 27, 182, 0, 149, 78, 28, 133, 10, 20, 0, 125, 184, 0, 83, 184, 0, 127, 45, 180, 0, 172, 54, 4]
abbrev dktX2_weigh_0 : List UInt8 := dkwX2_weigh_0 ++ dktX2_weigh_1
theorem dksX2_weigh_0 : cX2_weigh.data.toList.drop 0 = dktX2_weigh_0 := by decide +kernel
theorem dksX2_weigh_1 : cX2_weigh.data.toList.drop 24 = dktX2_weigh_1 := dk_seg dksX2_weigh_0 24 rfl rfl
theorem dksX2_weigh_2 : cX2_weigh.data.toList.drop 47 = dktX2_weigh_2 := dk_seg dksX2_weigh_1 23 rfl rfl
theorem dX2_weigh_0 : decode cX2_weigh 0 = .ok (.aload_n 0, 1) := dk_42 (dk_at dksX2_weigh_0 0 rfl rfl)
theorem dX2_weigh_1 : decode cX2_weigh 1 = .ok (.iload_n 1, 1) := dk_27 (dk_at dksX2_weigh_0 1 rfl rfl)
theorem dX2_weigh_2 : decode cX2_weigh 2 = .ok (.invokevirtual 149, 3) := dk_182 0 149 (dk_at dksX2_weigh_0 2 rfl rfl)
theorem dX2_weigh_5 : decode cX2_weigh 5 = .ok (.astore_n 3, 1) := dk_78 (dk_at dksX2_weigh_0 5 rfl rfl)
theorem dX2_weigh_6 : decode cX2_weigh 6 = .ok (.iload_n 2, 1) := dk_28 (dk_at dksX2_weigh_0 6 rfl rfl)
theorem dX2_weigh_7 : decode cX2_weigh 7 = .ok (.i2l, 1) := dk_133 (dk_at dksX2_weigh_0 7 rfl rfl)
theorem dX2_weigh_8 : decode cX2_weigh 8 = .ok (.lconst 1, 1) := dk_10 (dk_at dksX2_weigh_0 8 rfl rfl)
theorem dX2_weigh_9 : decode cX2_weigh 9 = .ok (.ldc2_w 125, 3) := dk_20 0 125 (dk_at dksX2_weigh_0 9 rfl rfl)
theorem dX2_weigh_12 : decode cX2_weigh 12 = .ok (.invokestatic 83, 3) := dk_184 0 83 (dk_at dksX2_weigh_0 12 rfl rfl)
theorem dX2_weigh_15 : decode cX2_weigh 15 = .ok (.invokestatic 127, 3) := dk_184 0 127 (dk_at dksX2_weigh_0 15 rfl rfl)
theorem dX2_weigh_18 : decode cX2_weigh 18 = .ok (.aload_n 3, 1) := dk_45 (dk_at dksX2_weigh_0 18 rfl rfl)
theorem dX2_weigh_19 : decode cX2_weigh 19 = .ok (.getfield 172, 3) := dk_180 0 172 (dk_at dksX2_weigh_0 19 rfl rfl)
theorem dX2_weigh_22 : decode cX2_weigh 22 = .ok (.istore 4, 2) := dk_54 4 (dk_at dksX2_weigh_0 22 rfl rfl)
theorem dX2_weigh_24 : decode cX2_weigh 24 = .ok (.iload 4, 2) := dk_21 4 (dk_at dksX2_weigh_1 0 rfl rfl)
theorem dX2_weigh_26 : decode cX2_weigh 26 = .ok (.iload_n 2, 1) := dk_28 (dk_at dksX2_weigh_1 2 rfl rfl)
theorem dX2_weigh_27 : decode cX2_weigh 27 = .ok (.if_icmp .eq 7, 3) := dk_159 0 7 (dk_at dksX2_weigh_1 3 rfl rfl)
theorem dX2_weigh_30 : decode cX2_weigh 30 = .ok (.iconst 1, 1) := dk_4 (dk_at dksX2_weigh_1 6 rfl rfl)
theorem dX2_weigh_31 : decode cX2_weigh 31 = .ok (.goto 4, 3) := dk_167 0 4 (dk_at dksX2_weigh_1 7 rfl rfl)
theorem dX2_weigh_34 : decode cX2_weigh 34 = .ok (.iconst 0, 1) := dk_3 (dk_at dksX2_weigh_1 10 rfl rfl)
theorem dX2_weigh_35 : decode cX2_weigh 35 = .ok (.bipush 7, 2) := dk_16 7 (dk_at dksX2_weigh_1 11 rfl rfl)
theorem dX2_weigh_37 : decode cX2_weigh 37 = .ok (.iload 4, 2) := dk_21 4 (dk_at dksX2_weigh_1 13 rfl rfl)
theorem dX2_weigh_39 : decode cX2_weigh 39 = .ok (.invokestatic 130, 3) := dk_184 0 130 (dk_at dksX2_weigh_1 15 rfl rfl)
theorem dX2_weigh_42 : decode cX2_weigh 42 = .ok (.aload_n 3, 1) := dk_45 (dk_at dksX2_weigh_1 18 rfl rfl)
theorem dX2_weigh_43 : decode cX2_weigh 43 = .ok (.iload_n 2, 1) := dk_28 (dk_at dksX2_weigh_1 19 rfl rfl)
theorem dX2_weigh_44 : decode cX2_weigh 44 = .ok (.putfield 172, 3) := dk_181 0 172 (dk_at dksX2_weigh_1 20 rfl rfl)
theorem dX2_weigh_47 : decode cX2_weigh 47 = .ok (.iload 4, 2) := dk_21 4 (dk_at dksX2_weigh_2 0 rfl rfl)
theorem dX2_weigh_49 : decode cX2_weigh 49 = .ok (.ireturn, 1) := dk_172 (dk_at dksX2_weigh_2 2 rfl rfl)
abbrev cX2_round : ByteArray := prog_2_method_25_code
def yX2_round : MethodName := ⟨RX2, "round", "()I"⟩
def dkwX2_round_0 : List UInt8 := [42, 182, 0, 196, 42, 182, 0, 193, 172]
abbrev dktX2_round_0 : List UInt8 := dkwX2_round_0 ++ []
theorem dksX2_round_0 : cX2_round.data.toList.drop 0 = dktX2_round_0 := by decide +kernel
theorem dX2_round_0 : decode cX2_round 0 = .ok (.aload_n 0, 1) := dk_42 (dk_at dksX2_round_0 0 rfl rfl)
theorem dX2_round_1 : decode cX2_round 1 = .ok (.invokevirtual 196, 3) := dk_182 0 196 (dk_at dksX2_round_0 1 rfl rfl)
theorem dX2_round_4 : decode cX2_round 4 = .ok (.aload_n 0, 1) := dk_42 (dk_at dksX2_round_0 4 rfl rfl)
theorem dX2_round_5 : decode cX2_round 5 = .ok (.invokevirtual 193, 3) := dk_182 0 193 (dk_at dksX2_round_0 5 rfl rfl)
theorem dX2_round_8 : decode cX2_round 8 = .ok (.ireturn, 1) := dk_172 (dk_at dksX2_round_0 8 rfl rfl)
abbrev cX2_checkRounds : ByteArray := prog_2_method_24_code
def yX2_checkRounds : MethodName := ⟨RX2, "checkRounds", "()V"⟩
def dkwX2_checkRounds_1 : List UInt8 := [184, 0, 130, 177]
abbrev dktX2_checkRounds_1 : List UInt8 := dkwX2_checkRounds_1 ++ []
def dkwX2_checkRounds_0 : List UInt8 := [42, 180, 0, 18, 182, 0, 192, 154, 0, 7, 4, 167, 0, 4, 3, 6, 42, 180, 0, 12, 182, 0, 79]
abbrev dktX2_checkRounds_0 : List UInt8 := dkwX2_checkRounds_0 ++ dktX2_checkRounds_1
theorem dksX2_checkRounds_0 : cX2_checkRounds.data.toList.drop 0 = dktX2_checkRounds_0 := by decide +kernel
theorem dksX2_checkRounds_1 : cX2_checkRounds.data.toList.drop 23 = dktX2_checkRounds_1 := dk_seg dksX2_checkRounds_0 23 rfl rfl
theorem dX2_checkRounds_0 : decode cX2_checkRounds 0 = .ok (.aload_n 0, 1) := dk_42 (dk_at dksX2_checkRounds_0 0 rfl rfl)
theorem dX2_checkRounds_1 : decode cX2_checkRounds 1 = .ok (.getfield 18, 3) := dk_180 0 18 (dk_at dksX2_checkRounds_0 1 rfl rfl)
theorem dX2_checkRounds_4 : decode cX2_checkRounds 4 = .ok (.invokevirtual 192, 3) := dk_182 0 192 (dk_at dksX2_checkRounds_0 4 rfl rfl)
theorem dX2_checkRounds_7 : decode cX2_checkRounds 7 = .ok (.ifCond .ne 7, 3) := dk_154 0 7 (dk_at dksX2_checkRounds_0 7 rfl rfl)
theorem dX2_checkRounds_10 : decode cX2_checkRounds 10 = .ok (.iconst 1, 1) := dk_4 (dk_at dksX2_checkRounds_0 10 rfl rfl)
theorem dX2_checkRounds_11 : decode cX2_checkRounds 11 = .ok (.goto 4, 3) := dk_167 0 4 (dk_at dksX2_checkRounds_0 11 rfl rfl)
theorem dX2_checkRounds_14 : decode cX2_checkRounds 14 = .ok (.iconst 0, 1) := dk_3 (dk_at dksX2_checkRounds_0 14 rfl rfl)
theorem dX2_checkRounds_15 : decode cX2_checkRounds 15 = .ok (.iconst 3, 1) := dk_6 (dk_at dksX2_checkRounds_0 15 rfl rfl)
theorem dX2_checkRounds_16 : decode cX2_checkRounds 16 = .ok (.aload_n 0, 1) := dk_42 (dk_at dksX2_checkRounds_0 16 rfl rfl)
theorem dX2_checkRounds_17 : decode cX2_checkRounds 17 = .ok (.getfield 12, 3) := dk_180 0 12 (dk_at dksX2_checkRounds_0 17 rfl rfl)
theorem dX2_checkRounds_20 : decode cX2_checkRounds 20 = .ok (.invokevirtual 79, 3) := dk_182 0 79 (dk_at dksX2_checkRounds_0 20 rfl rfl)
theorem dX2_checkRounds_23 : decode cX2_checkRounds 23 = .ok (.invokestatic 130, 3) := dk_184 0 130 (dk_at dksX2_checkRounds_1 0 rfl rfl)
theorem dX2_checkRounds_26 : decode cX2_checkRounds 26 = .ok (.return_, 1) := dk_177 (dk_at dksX2_checkRounds_1 3 rfl rfl)
abbrev cX2_settle : ByteArray := prog_2_method_26_code
def yX2_settle : MethodName := ⟨RX2, "settle", "(I)I"⟩
def dkwX2_settle_2 : List UInt8 := [154, 0, 14, 42, 182, 0, 193, 62, 132, 2, 1, 167, 255, 236, 28, 172]
abbrev dktX2_settle_2 : List UInt8 := dkwX2_settle_2 ++ []
def dkwX2_settle_1 : List UInt8 := [167, 0, 4, 3, 7, 42, 180, 0, 61, 184, 0, 130, 3, 61, 28, 27, 162, 0, 21, 42, 182, 0, 201]
abbrev dktX2_settle_1 : List UInt8 := dkwX2_settle_1 ++ dktX2_settle_2
def dkwX2_settle_0 : List UInt8 := [27, 133, 10, 20, 0, 199, 184, 0, 83, 184, 0, 127, 42, 182, 0, 196, 42, 182, 0, 201, 154, 0, 7, 4]
abbrev dktX2_settle_0 : List UInt8 := dkwX2_settle_0 ++ dktX2_settle_1
theorem dksX2_settle_0 : cX2_settle.data.toList.drop 0 = dktX2_settle_0 := by decide +kernel
theorem dksX2_settle_1 : cX2_settle.data.toList.drop 24 = dktX2_settle_1 := dk_seg dksX2_settle_0 24 rfl rfl
theorem dksX2_settle_2 : cX2_settle.data.toList.drop 47 = dktX2_settle_2 := dk_seg dksX2_settle_1 23 rfl rfl
theorem dX2_settle_0 : decode cX2_settle 0 = .ok (.iload_n 1, 1) := dk_27 (dk_at dksX2_settle_0 0 rfl rfl)
theorem dX2_settle_1 : decode cX2_settle 1 = .ok (.i2l, 1) := dk_133 (dk_at dksX2_settle_0 1 rfl rfl)
theorem dX2_settle_2 : decode cX2_settle 2 = .ok (.lconst 1, 1) := dk_10 (dk_at dksX2_settle_0 2 rfl rfl)
theorem dX2_settle_3 : decode cX2_settle 3 = .ok (.ldc2_w 199, 3) := dk_20 0 199 (dk_at dksX2_settle_0 3 rfl rfl)
theorem dX2_settle_6 : decode cX2_settle 6 = .ok (.invokestatic 83, 3) := dk_184 0 83 (dk_at dksX2_settle_0 6 rfl rfl)
theorem dX2_settle_9 : decode cX2_settle 9 = .ok (.invokestatic 127, 3) := dk_184 0 127 (dk_at dksX2_settle_0 9 rfl rfl)
theorem dX2_settle_12 : decode cX2_settle 12 = .ok (.aload_n 0, 1) := dk_42 (dk_at dksX2_settle_0 12 rfl rfl)
theorem dX2_settle_13 : decode cX2_settle 13 = .ok (.invokevirtual 196, 3) := dk_182 0 196 (dk_at dksX2_settle_0 13 rfl rfl)
theorem dX2_settle_16 : decode cX2_settle 16 = .ok (.aload_n 0, 1) := dk_42 (dk_at dksX2_settle_0 16 rfl rfl)
theorem dX2_settle_17 : decode cX2_settle 17 = .ok (.invokevirtual 201, 3) := dk_182 0 201 (dk_at dksX2_settle_0 17 rfl rfl)
theorem dX2_settle_20 : decode cX2_settle 20 = .ok (.ifCond .ne 7, 3) := dk_154 0 7 (dk_at dksX2_settle_0 20 rfl rfl)
theorem dX2_settle_23 : decode cX2_settle 23 = .ok (.iconst 1, 1) := dk_4 (dk_at dksX2_settle_0 23 rfl rfl)
theorem dX2_settle_24 : decode cX2_settle 24 = .ok (.goto 4, 3) := dk_167 0 4 (dk_at dksX2_settle_1 0 rfl rfl)
theorem dX2_settle_27 : decode cX2_settle 27 = .ok (.iconst 0, 1) := dk_3 (dk_at dksX2_settle_1 3 rfl rfl)
theorem dX2_settle_28 : decode cX2_settle 28 = .ok (.iconst 4, 1) := dk_7 (dk_at dksX2_settle_1 4 rfl rfl)
theorem dX2_settle_29 : decode cX2_settle 29 = .ok (.aload_n 0, 1) := dk_42 (dk_at dksX2_settle_1 5 rfl rfl)
theorem dX2_settle_30 : decode cX2_settle 30 = .ok (.getfield 61, 3) := dk_180 0 61 (dk_at dksX2_settle_1 6 rfl rfl)
theorem dX2_settle_33 : decode cX2_settle 33 = .ok (.invokestatic 130, 3) := dk_184 0 130 (dk_at dksX2_settle_1 9 rfl rfl)
theorem dX2_settle_36 : decode cX2_settle 36 = .ok (.iconst 0, 1) := dk_3 (dk_at dksX2_settle_1 12 rfl rfl)
theorem dX2_settle_37 : decode cX2_settle 37 = .ok (.istore_n 2, 1) := dk_61 (dk_at dksX2_settle_1 13 rfl rfl)
theorem dX2_settle_38 : decode cX2_settle 38 = .ok (.iload_n 2, 1) := dk_28 (dk_at dksX2_settle_1 14 rfl rfl)
theorem dX2_settle_39 : decode cX2_settle 39 = .ok (.iload_n 1, 1) := dk_27 (dk_at dksX2_settle_1 15 rfl rfl)
theorem dX2_settle_40 : decode cX2_settle 40 = .ok (.if_icmp .ge 21, 3) := dk_162 0 21 (dk_at dksX2_settle_1 16 rfl rfl)
theorem dX2_settle_43 : decode cX2_settle 43 = .ok (.aload_n 0, 1) := dk_42 (dk_at dksX2_settle_1 19 rfl rfl)
theorem dX2_settle_44 : decode cX2_settle 44 = .ok (.invokevirtual 201, 3) := dk_182 0 201 (dk_at dksX2_settle_1 20 rfl rfl)
theorem dX2_settle_47 : decode cX2_settle 47 = .ok (.ifCond .ne 14, 3) := dk_154 0 14 (dk_at dksX2_settle_2 0 rfl rfl)
theorem dX2_settle_50 : decode cX2_settle 50 = .ok (.aload_n 0, 1) := dk_42 (dk_at dksX2_settle_2 3 rfl rfl)
theorem dX2_settle_51 : decode cX2_settle 51 = .ok (.invokevirtual 193, 3) := dk_182 0 193 (dk_at dksX2_settle_2 4 rfl rfl)
theorem dX2_settle_54 : decode cX2_settle 54 = .ok (.istore_n 3, 1) := dk_62 (dk_at dksX2_settle_2 7 rfl rfl)
theorem dX2_settle_55 : decode cX2_settle 55 = .ok (.iinc 2 1, 3) := dk_132 2 1 (dk_at dksX2_settle_2 8 rfl rfl)
theorem dX2_settle_58 : decode cX2_settle 58 = .ok (.goto (-20), 3) := dk_167 255 236 (dk_at dksX2_settle_2 11 rfl rfl)
theorem dX2_settle_61 : decode cX2_settle 61 = .ok (.iload_n 2, 1) := dk_28 (dk_at dksX2_settle_2 14 rfl rfl)
theorem dX2_settle_62 : decode cX2_settle 62 = .ok (.ireturn, 1) := dk_172 (dk_at dksX2_settle_2 15 rfl rfl)
abbrev cX2_dog : ByteArray := prog_2_method_33_code
def yX2_dog : MethodName := ⟨RX2, "dog", "(II)I"⟩
def dkwX2_dog_2 : List UInt8 := [184, 0, 130, 42, 180, 0, 21, 27, 28, 79, 29, 172]
abbrev dktX2_dog_2 : List UInt8 := dkwX2_dog_2 ++ []
def dkwX2_dog_1 : List UInt8 := [184, 0, 87, 42, 180, 0, 21, 27, 46, 62, 29, 28, 159, 0, 7, 4, 167, 0, 4, 3, 16, 7, 29]
abbrev dktX2_dog_1 : List UInt8 := dkwX2_dog_1 ++ dktX2_dog_2
def dkwX2_dog_0 : List UInt8 := [42, 27, 182, 0, 223, 28, 133, 20, 0, 226, 42, 180, 0, 18, 182, 0, 79, 4, 100, 133, 184, 0, 83]
abbrev dktX2_dog_0 : List UInt8 := dkwX2_dog_0 ++ dktX2_dog_1
theorem dksX2_dog_0 : cX2_dog.data.toList.drop 0 = dktX2_dog_0 := by decide +kernel
theorem dksX2_dog_1 : cX2_dog.data.toList.drop 23 = dktX2_dog_1 := dk_seg dksX2_dog_0 23 rfl rfl
theorem dksX2_dog_2 : cX2_dog.data.toList.drop 46 = dktX2_dog_2 := dk_seg dksX2_dog_1 23 rfl rfl
theorem dX2_dog_0 : decode cX2_dog 0 = .ok (.aload_n 0, 1) := dk_42 (dk_at dksX2_dog_0 0 rfl rfl)
theorem dX2_dog_1 : decode cX2_dog 1 = .ok (.iload_n 1, 1) := dk_27 (dk_at dksX2_dog_0 1 rfl rfl)
theorem dX2_dog_2 : decode cX2_dog 2 = .ok (.invokevirtual 223, 3) := dk_182 0 223 (dk_at dksX2_dog_0 2 rfl rfl)
theorem dX2_dog_5 : decode cX2_dog 5 = .ok (.iload_n 2, 1) := dk_28 (dk_at dksX2_dog_0 5 rfl rfl)
theorem dX2_dog_6 : decode cX2_dog 6 = .ok (.i2l, 1) := dk_133 (dk_at dksX2_dog_0 6 rfl rfl)
theorem dX2_dog_7 : decode cX2_dog 7 = .ok (.ldc2_w 226, 3) := dk_20 0 226 (dk_at dksX2_dog_0 7 rfl rfl)
theorem dX2_dog_10 : decode cX2_dog 10 = .ok (.aload_n 0, 1) := dk_42 (dk_at dksX2_dog_0 10 rfl rfl)
theorem dX2_dog_11 : decode cX2_dog 11 = .ok (.getfield 18, 3) := dk_180 0 18 (dk_at dksX2_dog_0 11 rfl rfl)
theorem dX2_dog_14 : decode cX2_dog 14 = .ok (.invokevirtual 79, 3) := dk_182 0 79 (dk_at dksX2_dog_0 14 rfl rfl)
theorem dX2_dog_17 : decode cX2_dog 17 = .ok (.iconst 1, 1) := dk_4 (dk_at dksX2_dog_0 17 rfl rfl)
theorem dX2_dog_18 : decode cX2_dog 18 = .ok (.isub, 1) := dk_100 (dk_at dksX2_dog_0 18 rfl rfl)
theorem dX2_dog_19 : decode cX2_dog 19 = .ok (.i2l, 1) := dk_133 (dk_at dksX2_dog_0 19 rfl rfl)
theorem dX2_dog_20 : decode cX2_dog 20 = .ok (.invokestatic 83, 3) := dk_184 0 83 (dk_at dksX2_dog_0 20 rfl rfl)
theorem dX2_dog_23 : decode cX2_dog 23 = .ok (.invokestatic 87, 3) := dk_184 0 87 (dk_at dksX2_dog_1 0 rfl rfl)
theorem dX2_dog_26 : decode cX2_dog 26 = .ok (.aload_n 0, 1) := dk_42 (dk_at dksX2_dog_1 3 rfl rfl)
theorem dX2_dog_27 : decode cX2_dog 27 = .ok (.getfield 21, 3) := dk_180 0 21 (dk_at dksX2_dog_1 4 rfl rfl)
theorem dX2_dog_30 : decode cX2_dog 30 = .ok (.iload_n 1, 1) := dk_27 (dk_at dksX2_dog_1 7 rfl rfl)
theorem dX2_dog_31 : decode cX2_dog 31 = .ok (.iaload, 1) := dk_46 (dk_at dksX2_dog_1 8 rfl rfl)
theorem dX2_dog_32 : decode cX2_dog 32 = .ok (.istore_n 3, 1) := dk_62 (dk_at dksX2_dog_1 9 rfl rfl)
theorem dX2_dog_33 : decode cX2_dog 33 = .ok (.iload_n 3, 1) := dk_29 (dk_at dksX2_dog_1 10 rfl rfl)
theorem dX2_dog_34 : decode cX2_dog 34 = .ok (.iload_n 2, 1) := dk_28 (dk_at dksX2_dog_1 11 rfl rfl)
theorem dX2_dog_35 : decode cX2_dog 35 = .ok (.if_icmp .eq 7, 3) := dk_159 0 7 (dk_at dksX2_dog_1 12 rfl rfl)
theorem dX2_dog_38 : decode cX2_dog 38 = .ok (.iconst 1, 1) := dk_4 (dk_at dksX2_dog_1 15 rfl rfl)
theorem dX2_dog_39 : decode cX2_dog 39 = .ok (.goto 4, 3) := dk_167 0 4 (dk_at dksX2_dog_1 16 rfl rfl)
theorem dX2_dog_42 : decode cX2_dog 42 = .ok (.iconst 0, 1) := dk_3 (dk_at dksX2_dog_1 19 rfl rfl)
theorem dX2_dog_43 : decode cX2_dog 43 = .ok (.bipush 7, 2) := dk_16 7 (dk_at dksX2_dog_1 20 rfl rfl)
theorem dX2_dog_45 : decode cX2_dog 45 = .ok (.iload_n 3, 1) := dk_29 (dk_at dksX2_dog_1 22 rfl rfl)
theorem dX2_dog_46 : decode cX2_dog 46 = .ok (.invokestatic 130, 3) := dk_184 0 130 (dk_at dksX2_dog_2 0 rfl rfl)
theorem dX2_dog_49 : decode cX2_dog 49 = .ok (.aload_n 0, 1) := dk_42 (dk_at dksX2_dog_2 3 rfl rfl)
theorem dX2_dog_50 : decode cX2_dog 50 = .ok (.getfield 21, 3) := dk_180 0 21 (dk_at dksX2_dog_2 4 rfl rfl)
theorem dX2_dog_53 : decode cX2_dog 53 = .ok (.iload_n 1, 1) := dk_27 (dk_at dksX2_dog_2 7 rfl rfl)
theorem dX2_dog_54 : decode cX2_dog 54 = .ok (.iload_n 2, 1) := dk_28 (dk_at dksX2_dog_2 8 rfl rfl)
theorem dX2_dog_55 : decode cX2_dog 55 = .ok (.iastore, 1) := dk_79 (dk_at dksX2_dog_2 9 rfl rfl)
theorem dX2_dog_56 : decode cX2_dog 56 = .ok (.iload_n 3, 1) := dk_29 (dk_at dksX2_dog_2 10 rfl rfl)
theorem dX2_dog_57 : decode cX2_dog 57 = .ok (.ireturn, 1) := dk_172 (dk_at dksX2_dog_2 11 rfl rfl)
abbrev cX2_checkDog : ByteArray := prog_2_method_7_code
def yX2_checkDog : MethodName := ⟨RX2, "checkDog", "(I)V"⟩
def dkwX2_checkDog_0 : List UInt8 := [27, 133, 9, 20, 0, 99, 184, 0, 83, 184, 0, 87, 177]
abbrev dktX2_checkDog_0 : List UInt8 := dkwX2_checkDog_0 ++ []
theorem dksX2_checkDog_0 : cX2_checkDog.data.toList.drop 0 = dktX2_checkDog_0 := by decide +kernel
theorem dX2_checkDog_0 : decode cX2_checkDog 0 = .ok (.iload_n 1, 1) := dk_27 (dk_at dksX2_checkDog_0 0 rfl rfl)
theorem dX2_checkDog_1 : decode cX2_checkDog 1 = .ok (.i2l, 1) := dk_133 (dk_at dksX2_checkDog_0 1 rfl rfl)
theorem dX2_checkDog_2 : decode cX2_checkDog 2 = .ok (.lconst 0, 1) := dk_9 (dk_at dksX2_checkDog_0 2 rfl rfl)
theorem dX2_checkDog_3 : decode cX2_checkDog 3 = .ok (.ldc2_w 99, 3) := dk_20 0 99 (dk_at dksX2_checkDog_0 3 rfl rfl)
theorem dX2_checkDog_6 : decode cX2_checkDog 6 = .ok (.invokestatic 83, 3) := dk_184 0 83 (dk_at dksX2_checkDog_0 6 rfl rfl)
theorem dX2_checkDog_9 : decode cX2_checkDog 9 = .ok (.invokestatic 87, 3) := dk_184 0 87 (dk_at dksX2_checkDog_0 9 rfl rfl)
theorem dX2_checkDog_12 : decode cX2_checkDog 12 = .ok (.return_, 1) := dk_177 (dk_at dksX2_checkDog_0 12 rfl rfl)
abbrev cX2_fetch : ByteArray := prog_2_method_34_code
def yX2_fetch : MethodName := ⟨RX2, "fetch", "(I)I"⟩
def dkwX2_fetch_6 : List UInt8 := [180, 0, 68, 4, 96, 181, 0, 68, 42, 180, 0, 12, 45, 182, 0, 232, 172]
abbrev dktX2_fetch_6 : List UInt8 := dkwX2_fetch_6 ++ []
def dkwX2_fetch_5 : List UInt8 := [3, 16, 6, 42, 180, 0, 12, 182, 0, 79, 184, 0, 130, 45, 42, 45, 182, 0, 111, 181, 0, 107, 42, 89]
abbrev dktX2_fetch_5 : List UInt8 := dkwX2_fetch_5 ++ dktX2_fetch_6
def dkwX2_fetch_4 : List UInt8 := [182, 0, 110, 162, 0, 8, 25, 5, 167, 0, 4, 45, 78, 167, 255, 209, 45, 198, 0, 7, 4, 167, 0, 4]
abbrev dktX2_fetch_4 : List UInt8 := dkwX2_fetch_4 ++ dktX2_fetch_5
def dkwX2_fetch_3 : List UInt8 := [185, 0, 36, 1, 0, 192, 0, 40, 58, 5, 45, 198, 0, 17, 25, 5, 44, 182, 0, 110, 45, 44]
abbrev dktX2_fetch_3 : List UInt8 := dkwX2_fetch_3 ++ dktX2_fetch_4
def dkwX2_fetch_2 : List UInt8 := [182, 0, 228, 182, 0, 26, 58, 4, 25, 4, 185, 0, 30, 1, 0, 153, 0, 43, 25, 4]
abbrev dktX2_fetch_2 : List UInt8 := dkwX2_fetch_2 ++ dktX2_fetch_3
def dkwX2_fetch_1 : List UInt8 := [184, 0, 130, 42, 180, 0, 18, 42, 180, 0, 21, 27, 46, 182, 0, 95, 192, 0, 50, 77, 1, 78, 42]
abbrev dktX2_fetch_1 : List UInt8 := dkwX2_fetch_1 ++ dktX2_fetch_2
def dkwX2_fetch_0 : List UInt8 := [42, 27, 182, 0, 223, 42, 180, 0, 21, 27, 46, 2, 159, 0, 7, 4, 167, 0, 4, 3, 8, 27]
abbrev dktX2_fetch_0 : List UInt8 := dkwX2_fetch_0 ++ dktX2_fetch_1
theorem dksX2_fetch_0 : cX2_fetch.data.toList.drop 0 = dktX2_fetch_0 := by decide +kernel
theorem dksX2_fetch_1 : cX2_fetch.data.toList.drop 22 = dktX2_fetch_1 := dk_seg dksX2_fetch_0 22 rfl rfl
theorem dksX2_fetch_2 : cX2_fetch.data.toList.drop 45 = dktX2_fetch_2 := dk_seg dksX2_fetch_1 23 rfl rfl
theorem dksX2_fetch_3 : cX2_fetch.data.toList.drop 65 = dktX2_fetch_3 := dk_seg dksX2_fetch_2 20 rfl rfl
theorem dksX2_fetch_4 : cX2_fetch.data.toList.drop 87 = dktX2_fetch_4 := dk_seg dksX2_fetch_3 22 rfl rfl
theorem dksX2_fetch_5 : cX2_fetch.data.toList.drop 111 = dktX2_fetch_5 := dk_seg dksX2_fetch_4 24 rfl rfl
theorem dksX2_fetch_6 : cX2_fetch.data.toList.drop 135 = dktX2_fetch_6 := dk_seg dksX2_fetch_5 24 rfl rfl
theorem dX2_fetch_0 : decode cX2_fetch 0 = .ok (.aload_n 0, 1) := dk_42 (dk_at dksX2_fetch_0 0 rfl rfl)
theorem dX2_fetch_1 : decode cX2_fetch 1 = .ok (.iload_n 1, 1) := dk_27 (dk_at dksX2_fetch_0 1 rfl rfl)
theorem dX2_fetch_2 : decode cX2_fetch 2 = .ok (.invokevirtual 223, 3) := dk_182 0 223 (dk_at dksX2_fetch_0 2 rfl rfl)
theorem dX2_fetch_5 : decode cX2_fetch 5 = .ok (.aload_n 0, 1) := dk_42 (dk_at dksX2_fetch_0 5 rfl rfl)
theorem dX2_fetch_6 : decode cX2_fetch 6 = .ok (.getfield 21, 3) := dk_180 0 21 (dk_at dksX2_fetch_0 6 rfl rfl)
theorem dX2_fetch_9 : decode cX2_fetch 9 = .ok (.iload_n 1, 1) := dk_27 (dk_at dksX2_fetch_0 9 rfl rfl)
theorem dX2_fetch_10 : decode cX2_fetch 10 = .ok (.iaload, 1) := dk_46 (dk_at dksX2_fetch_0 10 rfl rfl)
theorem dX2_fetch_11 : decode cX2_fetch 11 = .ok (.iconst (-1), 1) := dk_2 (dk_at dksX2_fetch_0 11 rfl rfl)
theorem dX2_fetch_12 : decode cX2_fetch 12 = .ok (.if_icmp .eq 7, 3) := dk_159 0 7 (dk_at dksX2_fetch_0 12 rfl rfl)
theorem dX2_fetch_15 : decode cX2_fetch 15 = .ok (.iconst 1, 1) := dk_4 (dk_at dksX2_fetch_0 15 rfl rfl)
theorem dX2_fetch_16 : decode cX2_fetch 16 = .ok (.goto 4, 3) := dk_167 0 4 (dk_at dksX2_fetch_0 16 rfl rfl)
theorem dX2_fetch_19 : decode cX2_fetch 19 = .ok (.iconst 0, 1) := dk_3 (dk_at dksX2_fetch_0 19 rfl rfl)
theorem dX2_fetch_20 : decode cX2_fetch 20 = .ok (.iconst 5, 1) := dk_8 (dk_at dksX2_fetch_0 20 rfl rfl)
theorem dX2_fetch_21 : decode cX2_fetch 21 = .ok (.iload_n 1, 1) := dk_27 (dk_at dksX2_fetch_0 21 rfl rfl)
theorem dX2_fetch_22 : decode cX2_fetch 22 = .ok (.invokestatic 130, 3) := dk_184 0 130 (dk_at dksX2_fetch_1 0 rfl rfl)
theorem dX2_fetch_25 : decode cX2_fetch 25 = .ok (.aload_n 0, 1) := dk_42 (dk_at dksX2_fetch_1 3 rfl rfl)
theorem dX2_fetch_26 : decode cX2_fetch 26 = .ok (.getfield 18, 3) := dk_180 0 18 (dk_at dksX2_fetch_1 4 rfl rfl)
theorem dX2_fetch_29 : decode cX2_fetch 29 = .ok (.aload_n 0, 1) := dk_42 (dk_at dksX2_fetch_1 7 rfl rfl)
theorem dX2_fetch_30 : decode cX2_fetch 30 = .ok (.getfield 21, 3) := dk_180 0 21 (dk_at dksX2_fetch_1 8 rfl rfl)
theorem dX2_fetch_33 : decode cX2_fetch 33 = .ok (.iload_n 1, 1) := dk_27 (dk_at dksX2_fetch_1 11 rfl rfl)
theorem dX2_fetch_34 : decode cX2_fetch 34 = .ok (.iaload, 1) := dk_46 (dk_at dksX2_fetch_1 12 rfl rfl)
theorem dX2_fetch_35 : decode cX2_fetch 35 = .ok (.invokevirtual 95, 3) := dk_182 0 95 (dk_at dksX2_fetch_1 13 rfl rfl)
theorem dX2_fetch_38 : decode cX2_fetch 38 = .ok (.checkcast 50, 3) := dk_192 0 50 (dk_at dksX2_fetch_1 16 rfl rfl)
theorem dX2_fetch_41 : decode cX2_fetch 41 = .ok (.astore_n 2, 1) := dk_77 (dk_at dksX2_fetch_1 19 rfl rfl)
theorem dX2_fetch_42 : decode cX2_fetch 42 = .ok (.aconst_null, 1) := dk_1 (dk_at dksX2_fetch_1 20 rfl rfl)
theorem dX2_fetch_43 : decode cX2_fetch 43 = .ok (.astore_n 3, 1) := dk_78 (dk_at dksX2_fetch_1 21 rfl rfl)
theorem dX2_fetch_44 : decode cX2_fetch 44 = .ok (.aload_n 0, 1) := dk_42 (dk_at dksX2_fetch_1 22 rfl rfl)
theorem dX2_fetch_45 : decode cX2_fetch 45 = .ok (.invokevirtual 228, 3) := dk_182 0 228 (dk_at dksX2_fetch_2 0 rfl rfl)
theorem dX2_fetch_48 : decode cX2_fetch 48 = .ok (.invokevirtual 26, 3) := dk_182 0 26 (dk_at dksX2_fetch_2 3 rfl rfl)
theorem dX2_fetch_51 : decode cX2_fetch 51 = .ok (.astore 4, 2) := dk_58 4 (dk_at dksX2_fetch_2 6 rfl rfl)
theorem dX2_fetch_53 : decode cX2_fetch 53 = .ok (.aload 4, 2) := dk_25 4 (dk_at dksX2_fetch_2 8 rfl rfl)
theorem dX2_fetch_55 : decode cX2_fetch 55 = .ok (.invokeinterface 30 1, 5) := by decide +kernel
theorem dX2_fetch_60 : decode cX2_fetch 60 = .ok (.ifCond .eq 43, 3) := dk_153 0 43 (dk_at dksX2_fetch_2 15 rfl rfl)
theorem dX2_fetch_63 : decode cX2_fetch 63 = .ok (.aload 4, 2) := dk_25 4 (dk_at dksX2_fetch_2 18 rfl rfl)
theorem dX2_fetch_65 : decode cX2_fetch 65 = .ok (.invokeinterface 36 1, 5) := by decide +kernel
theorem dX2_fetch_70 : decode cX2_fetch 70 = .ok (.checkcast 40, 3) := dk_192 0 40 (dk_at dksX2_fetch_3 5 rfl rfl)
theorem dX2_fetch_73 : decode cX2_fetch 73 = .ok (.astore 5, 2) := dk_58 5 (dk_at dksX2_fetch_3 8 rfl rfl)
theorem dX2_fetch_75 : decode cX2_fetch 75 = .ok (.aload_n 3, 1) := dk_45 (dk_at dksX2_fetch_3 10 rfl rfl)
theorem dX2_fetch_76 : decode cX2_fetch 76 = .ok (.ifnull 17, 3) := dk_198 0 17 (dk_at dksX2_fetch_3 11 rfl rfl)
theorem dX2_fetch_79 : decode cX2_fetch 79 = .ok (.aload 5, 2) := dk_25 5 (dk_at dksX2_fetch_3 14 rfl rfl)
theorem dX2_fetch_81 : decode cX2_fetch 81 = .ok (.aload_n 2, 1) := dk_44 (dk_at dksX2_fetch_3 16 rfl rfl)
theorem dX2_fetch_82 : decode cX2_fetch 82 = .ok (.invokevirtual 110, 3) := dk_182 0 110 (dk_at dksX2_fetch_3 17 rfl rfl)
theorem dX2_fetch_85 : decode cX2_fetch 85 = .ok (.aload_n 3, 1) := dk_45 (dk_at dksX2_fetch_3 20 rfl rfl)
theorem dX2_fetch_86 : decode cX2_fetch 86 = .ok (.aload_n 2, 1) := dk_44 (dk_at dksX2_fetch_3 21 rfl rfl)
theorem dX2_fetch_87 : decode cX2_fetch 87 = .ok (.invokevirtual 110, 3) := dk_182 0 110 (dk_at dksX2_fetch_4 0 rfl rfl)
theorem dX2_fetch_90 : decode cX2_fetch 90 = .ok (.if_icmp .ge 8, 3) := dk_162 0 8 (dk_at dksX2_fetch_4 3 rfl rfl)
theorem dX2_fetch_93 : decode cX2_fetch 93 = .ok (.aload 5, 2) := dk_25 5 (dk_at dksX2_fetch_4 6 rfl rfl)
theorem dX2_fetch_95 : decode cX2_fetch 95 = .ok (.goto 4, 3) := dk_167 0 4 (dk_at dksX2_fetch_4 8 rfl rfl)
theorem dX2_fetch_98 : decode cX2_fetch 98 = .ok (.aload_n 3, 1) := dk_45 (dk_at dksX2_fetch_4 11 rfl rfl)
theorem dX2_fetch_99 : decode cX2_fetch 99 = .ok (.astore_n 3, 1) := dk_78 (dk_at dksX2_fetch_4 12 rfl rfl)
theorem dX2_fetch_100 : decode cX2_fetch 100 = .ok (.goto (-47), 3) := dk_167 255 209 (dk_at dksX2_fetch_4 13 rfl rfl)
theorem dX2_fetch_103 : decode cX2_fetch 103 = .ok (.aload_n 3, 1) := dk_45 (dk_at dksX2_fetch_4 16 rfl rfl)
theorem dX2_fetch_104 : decode cX2_fetch 104 = .ok (.ifnull 7, 3) := dk_198 0 7 (dk_at dksX2_fetch_4 17 rfl rfl)
theorem dX2_fetch_107 : decode cX2_fetch 107 = .ok (.iconst 1, 1) := dk_4 (dk_at dksX2_fetch_4 20 rfl rfl)
theorem dX2_fetch_108 : decode cX2_fetch 108 = .ok (.goto 4, 3) := dk_167 0 4 (dk_at dksX2_fetch_4 21 rfl rfl)
theorem dX2_fetch_111 : decode cX2_fetch 111 = .ok (.iconst 0, 1) := dk_3 (dk_at dksX2_fetch_5 0 rfl rfl)
theorem dX2_fetch_112 : decode cX2_fetch 112 = .ok (.bipush 6, 2) := dk_16 6 (dk_at dksX2_fetch_5 1 rfl rfl)
theorem dX2_fetch_114 : decode cX2_fetch 114 = .ok (.aload_n 0, 1) := dk_42 (dk_at dksX2_fetch_5 3 rfl rfl)
theorem dX2_fetch_115 : decode cX2_fetch 115 = .ok (.getfield 12, 3) := dk_180 0 12 (dk_at dksX2_fetch_5 4 rfl rfl)
theorem dX2_fetch_118 : decode cX2_fetch 118 = .ok (.invokevirtual 79, 3) := dk_182 0 79 (dk_at dksX2_fetch_5 7 rfl rfl)
theorem dX2_fetch_121 : decode cX2_fetch 121 = .ok (.invokestatic 130, 3) := dk_184 0 130 (dk_at dksX2_fetch_5 10 rfl rfl)
theorem dX2_fetch_124 : decode cX2_fetch 124 = .ok (.aload_n 3, 1) := dk_45 (dk_at dksX2_fetch_5 13 rfl rfl)
theorem dX2_fetch_125 : decode cX2_fetch 125 = .ok (.aload_n 0, 1) := dk_42 (dk_at dksX2_fetch_5 14 rfl rfl)
theorem dX2_fetch_126 : decode cX2_fetch 126 = .ok (.aload_n 3, 1) := dk_45 (dk_at dksX2_fetch_5 15 rfl rfl)
theorem dX2_fetch_127 : decode cX2_fetch 127 = .ok (.invokevirtual 111, 3) := dk_182 0 111 (dk_at dksX2_fetch_5 16 rfl rfl)
theorem dX2_fetch_130 : decode cX2_fetch 130 = .ok (.putfield 107, 3) := dk_181 0 107 (dk_at dksX2_fetch_5 19 rfl rfl)
theorem dX2_fetch_133 : decode cX2_fetch 133 = .ok (.aload_n 0, 1) := dk_42 (dk_at dksX2_fetch_5 22 rfl rfl)
theorem dX2_fetch_134 : decode cX2_fetch 134 = .ok (.dup, 1) := dk_89 (dk_at dksX2_fetch_5 23 rfl rfl)
theorem dX2_fetch_135 : decode cX2_fetch 135 = .ok (.getfield 68, 3) := dk_180 0 68 (dk_at dksX2_fetch_6 0 rfl rfl)
theorem dX2_fetch_138 : decode cX2_fetch 138 = .ok (.iconst 1, 1) := dk_4 (dk_at dksX2_fetch_6 3 rfl rfl)
theorem dX2_fetch_139 : decode cX2_fetch 139 = .ok (.iadd, 1) := dk_96 (dk_at dksX2_fetch_6 4 rfl rfl)
theorem dX2_fetch_140 : decode cX2_fetch 140 = .ok (.putfield 68, 3) := dk_181 0 68 (dk_at dksX2_fetch_6 5 rfl rfl)
theorem dX2_fetch_143 : decode cX2_fetch 143 = .ok (.aload_n 0, 1) := dk_42 (dk_at dksX2_fetch_6 8 rfl rfl)
theorem dX2_fetch_144 : decode cX2_fetch 144 = .ok (.getfield 12, 3) := dk_180 0 12 (dk_at dksX2_fetch_6 9 rfl rfl)
theorem dX2_fetch_147 : decode cX2_fetch 147 = .ok (.aload_n 3, 1) := dk_45 (dk_at dksX2_fetch_6 12 rfl rfl)
theorem dX2_fetch_148 : decode cX2_fetch 148 = .ok (.invokevirtual 232, 3) := dk_182 0 232 (dk_at dksX2_fetch_6 13 rfl rfl)
theorem dX2_fetch_151 : decode cX2_fetch 151 = .ok (.ireturn, 1) := dk_172 (dk_at dksX2_fetch_6 16 rfl rfl)
abbrev cX2_spreadAfter : ByteArray := prog_2_method_30_code
def yX2_spreadAfter : MethodName := ⟨RX2, "spreadAfter", "(I)I"⟩
def dkwX2_spreadAfter_1 : List UInt8 := [62, 29, 27, 162, 0, 15, 44, 182, 0, 193, 54, 4, 132, 3, 1, 167, 255, 242, 44, 182, 0, 218, 172]
abbrev dktX2_spreadAfter_1 : List UInt8 := dkwX2_spreadAfter_1 ++ []
def dkwX2_spreadAfter_0 : List UInt8 := [42, 180, 0, 18, 182, 0, 192, 154, 0, 7, 4, 167, 0, 4, 3, 184, 0, 215, 42, 182, 0, 189, 77, 3]
abbrev dktX2_spreadAfter_0 : List UInt8 := dkwX2_spreadAfter_0 ++ dktX2_spreadAfter_1
theorem dksX2_spreadAfter_0 : cX2_spreadAfter.data.toList.drop 0 = dktX2_spreadAfter_0 := by decide +kernel
theorem dksX2_spreadAfter_1 : cX2_spreadAfter.data.toList.drop 24 = dktX2_spreadAfter_1 := dk_seg dksX2_spreadAfter_0 24 rfl rfl
theorem dX2_spreadAfter_0 : decode cX2_spreadAfter 0 = .ok (.aload_n 0, 1) := dk_42 (dk_at dksX2_spreadAfter_0 0 rfl rfl)
theorem dX2_spreadAfter_1 : decode cX2_spreadAfter 1 = .ok (.getfield 18, 3) := dk_180 0 18 (dk_at dksX2_spreadAfter_0 1 rfl rfl)
theorem dX2_spreadAfter_4 : decode cX2_spreadAfter 4 = .ok (.invokevirtual 192, 3) := dk_182 0 192 (dk_at dksX2_spreadAfter_0 4 rfl rfl)
theorem dX2_spreadAfter_7 : decode cX2_spreadAfter 7 = .ok (.ifCond .ne 7, 3) := dk_154 0 7 (dk_at dksX2_spreadAfter_0 7 rfl rfl)
theorem dX2_spreadAfter_10 : decode cX2_spreadAfter 10 = .ok (.iconst 1, 1) := dk_4 (dk_at dksX2_spreadAfter_0 10 rfl rfl)
theorem dX2_spreadAfter_11 : decode cX2_spreadAfter 11 = .ok (.goto 4, 3) := dk_167 0 4 (dk_at dksX2_spreadAfter_0 11 rfl rfl)
theorem dX2_spreadAfter_14 : decode cX2_spreadAfter 14 = .ok (.iconst 0, 1) := dk_3 (dk_at dksX2_spreadAfter_0 14 rfl rfl)
theorem dX2_spreadAfter_15 : decode cX2_spreadAfter 15 = .ok (.invokestatic 215, 3) := dk_184 0 215 (dk_at dksX2_spreadAfter_0 15 rfl rfl)
theorem dX2_spreadAfter_18 : decode cX2_spreadAfter 18 = .ok (.aload_n 0, 1) := dk_42 (dk_at dksX2_spreadAfter_0 18 rfl rfl)
theorem dX2_spreadAfter_19 : decode cX2_spreadAfter 19 = .ok (.invokevirtual 189, 3) := dk_182 0 189 (dk_at dksX2_spreadAfter_0 19 rfl rfl)
theorem dX2_spreadAfter_22 : decode cX2_spreadAfter 22 = .ok (.astore_n 2, 1) := dk_77 (dk_at dksX2_spreadAfter_0 22 rfl rfl)
theorem dX2_spreadAfter_23 : decode cX2_spreadAfter 23 = .ok (.iconst 0, 1) := dk_3 (dk_at dksX2_spreadAfter_0 23 rfl rfl)
theorem dX2_spreadAfter_24 : decode cX2_spreadAfter 24 = .ok (.istore_n 3, 1) := dk_62 (dk_at dksX2_spreadAfter_1 0 rfl rfl)
theorem dX2_spreadAfter_25 : decode cX2_spreadAfter 25 = .ok (.iload_n 3, 1) := dk_29 (dk_at dksX2_spreadAfter_1 1 rfl rfl)
theorem dX2_spreadAfter_26 : decode cX2_spreadAfter 26 = .ok (.iload_n 1, 1) := dk_27 (dk_at dksX2_spreadAfter_1 2 rfl rfl)
theorem dX2_spreadAfter_27 : decode cX2_spreadAfter 27 = .ok (.if_icmp .ge 15, 3) := dk_162 0 15 (dk_at dksX2_spreadAfter_1 3 rfl rfl)
theorem dX2_spreadAfter_30 : decode cX2_spreadAfter 30 = .ok (.aload_n 2, 1) := dk_44 (dk_at dksX2_spreadAfter_1 6 rfl rfl)
theorem dX2_spreadAfter_31 : decode cX2_spreadAfter 31 = .ok (.invokevirtual 193, 3) := dk_182 0 193 (dk_at dksX2_spreadAfter_1 7 rfl rfl)
theorem dX2_spreadAfter_34 : decode cX2_spreadAfter 34 = .ok (.istore 4, 2) := dk_54 4 (dk_at dksX2_spreadAfter_1 10 rfl rfl)
theorem dX2_spreadAfter_36 : decode cX2_spreadAfter 36 = .ok (.iinc 3 1, 3) := dk_132 3 1 (dk_at dksX2_spreadAfter_1 12 rfl rfl)
theorem dX2_spreadAfter_39 : decode cX2_spreadAfter 39 = .ok (.goto (-14), 3) := dk_167 255 242 (dk_at dksX2_spreadAfter_1 15 rfl rfl)
theorem dX2_spreadAfter_42 : decode cX2_spreadAfter 42 = .ok (.aload_n 2, 1) := dk_44 (dk_at dksX2_spreadAfter_1 18 rfl rfl)
theorem dX2_spreadAfter_43 : decode cX2_spreadAfter 43 = .ok (.invokevirtual 218, 3) := dk_182 0 218 (dk_at dksX2_spreadAfter_1 19 rfl rfl)
theorem dX2_spreadAfter_46 : decode cX2_spreadAfter 46 = .ok (.ireturn, 1) := dk_172 (dk_at dksX2_spreadAfter_1 22 rfl rfl)
abbrev cX2_spreadWith : ByteArray := prog_2_method_31_code
def yX2_spreadWith : MethodName := ⟨RX2, "spreadWith", "(LFlockHuts$Placed;)I"⟩
def dkwX2_spreadWith_3 : List UInt8 := [25, 6, 182, 0, 111, 182, 0, 95, 192, 0, 101, 182, 0, 110, 104, 96, 54, 4, 167, 255, 202, 21, 4, 172]
abbrev dktX2_spreadWith_3 : List UInt8 := dkwX2_spreadWith_3 ++ []
def dkwX2_spreadWith_2 : List UInt8 := [185, 0, 36, 1, 0, 192, 0, 40, 58, 6, 21, 4, 25, 6, 180, 0, 172, 25, 6, 44, 180, 0, 18, 44]
abbrev dktX2_spreadWith_2 : List UInt8 := dkwX2_spreadWith_2 ++ dktX2_spreadWith_3
def dkwX2_spreadWith_1 : List UInt8 := [44, 180, 0, 12, 182, 0, 26, 58, 5, 25, 5, 185, 0, 30, 1, 0, 153, 0, 50, 25, 5]
abbrev dktX2_spreadWith_1 : List UInt8 := dkwX2_spreadWith_1 ++ dktX2_spreadWith_2
def dkwX2_spreadWith_0 : List UInt8 := [42, 182, 0, 189, 77, 44, 180, 0, 18, 187, 0, 50, 89, 43, 183, 0, 52, 182, 0, 46, 62, 3, 54, 4]
abbrev dktX2_spreadWith_0 : List UInt8 := dkwX2_spreadWith_0 ++ dktX2_spreadWith_1
theorem dksX2_spreadWith_0 : cX2_spreadWith.data.toList.drop 0 = dktX2_spreadWith_0 := by decide +kernel
theorem dksX2_spreadWith_1 : cX2_spreadWith.data.toList.drop 24 = dktX2_spreadWith_1 := dk_seg dksX2_spreadWith_0 24 rfl rfl
theorem dksX2_spreadWith_2 : cX2_spreadWith.data.toList.drop 45 = dktX2_spreadWith_2 := dk_seg dksX2_spreadWith_1 21 rfl rfl
theorem dksX2_spreadWith_3 : cX2_spreadWith.data.toList.drop 69 = dktX2_spreadWith_3 := dk_seg dksX2_spreadWith_2 24 rfl rfl
theorem dX2_spreadWith_0 : decode cX2_spreadWith 0 = .ok (.aload_n 0, 1) := dk_42 (dk_at dksX2_spreadWith_0 0 rfl rfl)
theorem dX2_spreadWith_1 : decode cX2_spreadWith 1 = .ok (.invokevirtual 189, 3) := dk_182 0 189 (dk_at dksX2_spreadWith_0 1 rfl rfl)
theorem dX2_spreadWith_4 : decode cX2_spreadWith 4 = .ok (.astore_n 2, 1) := dk_77 (dk_at dksX2_spreadWith_0 4 rfl rfl)
theorem dX2_spreadWith_5 : decode cX2_spreadWith 5 = .ok (.aload_n 2, 1) := dk_44 (dk_at dksX2_spreadWith_0 5 rfl rfl)
theorem dX2_spreadWith_6 : decode cX2_spreadWith 6 = .ok (.getfield 18, 3) := dk_180 0 18 (dk_at dksX2_spreadWith_0 6 rfl rfl)
theorem dX2_spreadWith_9 : decode cX2_spreadWith 9 = .ok (.new 50, 3) := dk_187 0 50 (dk_at dksX2_spreadWith_0 9 rfl rfl)
theorem dX2_spreadWith_12 : decode cX2_spreadWith 12 = .ok (.dup, 1) := dk_89 (dk_at dksX2_spreadWith_0 12 rfl rfl)
theorem dX2_spreadWith_13 : decode cX2_spreadWith 13 = .ok (.aload_n 1, 1) := dk_43 (dk_at dksX2_spreadWith_0 13 rfl rfl)
theorem dX2_spreadWith_14 : decode cX2_spreadWith 14 = .ok (.invokespecial 52, 3) := dk_183 0 52 (dk_at dksX2_spreadWith_0 14 rfl rfl)
theorem dX2_spreadWith_17 : decode cX2_spreadWith 17 = .ok (.invokevirtual 46, 3) := dk_182 0 46 (dk_at dksX2_spreadWith_0 17 rfl rfl)
theorem dX2_spreadWith_20 : decode cX2_spreadWith 20 = .ok (.istore_n 3, 1) := dk_62 (dk_at dksX2_spreadWith_0 20 rfl rfl)
theorem dX2_spreadWith_21 : decode cX2_spreadWith 21 = .ok (.iconst 0, 1) := dk_3 (dk_at dksX2_spreadWith_0 21 rfl rfl)
theorem dX2_spreadWith_22 : decode cX2_spreadWith 22 = .ok (.istore 4, 2) := dk_54 4 (dk_at dksX2_spreadWith_0 22 rfl rfl)
theorem dX2_spreadWith_24 : decode cX2_spreadWith 24 = .ok (.aload_n 2, 1) := dk_44 (dk_at dksX2_spreadWith_1 0 rfl rfl)
theorem dX2_spreadWith_25 : decode cX2_spreadWith 25 = .ok (.getfield 12, 3) := dk_180 0 12 (dk_at dksX2_spreadWith_1 1 rfl rfl)
theorem dX2_spreadWith_28 : decode cX2_spreadWith 28 = .ok (.invokevirtual 26, 3) := dk_182 0 26 (dk_at dksX2_spreadWith_1 4 rfl rfl)
theorem dX2_spreadWith_31 : decode cX2_spreadWith 31 = .ok (.astore 5, 2) := dk_58 5 (dk_at dksX2_spreadWith_1 7 rfl rfl)
theorem dX2_spreadWith_33 : decode cX2_spreadWith 33 = .ok (.aload 5, 2) := dk_25 5 (dk_at dksX2_spreadWith_1 9 rfl rfl)
theorem dX2_spreadWith_35 : decode cX2_spreadWith 35 = .ok (.invokeinterface 30 1, 5) := by decide +kernel
theorem dX2_spreadWith_40 : decode cX2_spreadWith 40 = .ok (.ifCond .eq 50, 3) := dk_153 0 50 (dk_at dksX2_spreadWith_1 16 rfl rfl)
theorem dX2_spreadWith_43 : decode cX2_spreadWith 43 = .ok (.aload 5, 2) := dk_25 5 (dk_at dksX2_spreadWith_1 19 rfl rfl)
theorem dX2_spreadWith_45 : decode cX2_spreadWith 45 = .ok (.invokeinterface 36 1, 5) := by decide +kernel
theorem dX2_spreadWith_50 : decode cX2_spreadWith 50 = .ok (.checkcast 40, 3) := dk_192 0 40 (dk_at dksX2_spreadWith_2 5 rfl rfl)
theorem dX2_spreadWith_53 : decode cX2_spreadWith 53 = .ok (.astore 6, 2) := dk_58 6 (dk_at dksX2_spreadWith_2 8 rfl rfl)
theorem dX2_spreadWith_55 : decode cX2_spreadWith 55 = .ok (.iload 4, 2) := dk_21 4 (dk_at dksX2_spreadWith_2 10 rfl rfl)
theorem dX2_spreadWith_57 : decode cX2_spreadWith 57 = .ok (.aload 6, 2) := dk_25 6 (dk_at dksX2_spreadWith_2 12 rfl rfl)
theorem dX2_spreadWith_59 : decode cX2_spreadWith 59 = .ok (.getfield 172, 3) := dk_180 0 172 (dk_at dksX2_spreadWith_2 14 rfl rfl)
theorem dX2_spreadWith_62 : decode cX2_spreadWith 62 = .ok (.aload 6, 2) := dk_25 6 (dk_at dksX2_spreadWith_2 17 rfl rfl)
theorem dX2_spreadWith_64 : decode cX2_spreadWith 64 = .ok (.aload_n 2, 1) := dk_44 (dk_at dksX2_spreadWith_2 19 rfl rfl)
theorem dX2_spreadWith_65 : decode cX2_spreadWith 65 = .ok (.getfield 18, 3) := dk_180 0 18 (dk_at dksX2_spreadWith_2 20 rfl rfl)
theorem dX2_spreadWith_68 : decode cX2_spreadWith 68 = .ok (.aload_n 2, 1) := dk_44 (dk_at dksX2_spreadWith_2 23 rfl rfl)
theorem dX2_spreadWith_69 : decode cX2_spreadWith 69 = .ok (.aload 6, 2) := dk_25 6 (dk_at dksX2_spreadWith_3 0 rfl rfl)
theorem dX2_spreadWith_71 : decode cX2_spreadWith 71 = .ok (.invokevirtual 111, 3) := dk_182 0 111 (dk_at dksX2_spreadWith_3 2 rfl rfl)
theorem dX2_spreadWith_74 : decode cX2_spreadWith 74 = .ok (.invokevirtual 95, 3) := dk_182 0 95 (dk_at dksX2_spreadWith_3 5 rfl rfl)
theorem dX2_spreadWith_77 : decode cX2_spreadWith 77 = .ok (.checkcast 101, 3) := dk_192 0 101 (dk_at dksX2_spreadWith_3 8 rfl rfl)
theorem dX2_spreadWith_80 : decode cX2_spreadWith 80 = .ok (.invokevirtual 110, 3) := dk_182 0 110 (dk_at dksX2_spreadWith_3 11 rfl rfl)
theorem dX2_spreadWith_83 : decode cX2_spreadWith 83 = .ok (.imul, 1) := dk_104 (dk_at dksX2_spreadWith_3 14 rfl rfl)
theorem dX2_spreadWith_84 : decode cX2_spreadWith 84 = .ok (.iadd, 1) := dk_96 (dk_at dksX2_spreadWith_3 15 rfl rfl)
theorem dX2_spreadWith_85 : decode cX2_spreadWith 85 = .ok (.istore 4, 2) := dk_54 4 (dk_at dksX2_spreadWith_3 16 rfl rfl)
theorem dX2_spreadWith_87 : decode cX2_spreadWith 87 = .ok (.goto (-54), 3) := dk_167 255 202 (dk_at dksX2_spreadWith_3 18 rfl rfl)
theorem dX2_spreadWith_90 : decode cX2_spreadWith 90 = .ok (.iload 4, 2) := dk_21 4 (dk_at dksX2_spreadWith_3 21 rfl rfl)
theorem dX2_spreadWith_92 : decode cX2_spreadWith 92 = .ok (.ireturn, 1) := dk_172 (dk_at dksX2_spreadWith_3 23 rfl rfl)
abbrev cX2_checkHuts : ByteArray := prog_2_method_5_code
def yX2_checkHuts : MethodName := ⟨RX2, "checkHuts", "(II)V"⟩
def dkwX2_checkHuts_0 : List UInt8 := [42, 27, 182, 0, 91, 42, 28, 182, 0, 91, 177]
abbrev dktX2_checkHuts_0 : List UInt8 := dkwX2_checkHuts_0 ++ []
theorem dksX2_checkHuts_0 : cX2_checkHuts.data.toList.drop 0 = dktX2_checkHuts_0 := by decide +kernel
theorem dX2_checkHuts_0 : decode cX2_checkHuts 0 = .ok (.aload_n 0, 1) := dk_42 (dk_at dksX2_checkHuts_0 0 rfl rfl)
theorem dX2_checkHuts_1 : decode cX2_checkHuts 1 = .ok (.iload_n 1, 1) := dk_27 (dk_at dksX2_checkHuts_0 1 rfl rfl)
theorem dX2_checkHuts_2 : decode cX2_checkHuts 2 = .ok (.invokevirtual 91, 3) := dk_182 0 91 (dk_at dksX2_checkHuts_0 2 rfl rfl)
theorem dX2_checkHuts_5 : decode cX2_checkHuts 5 = .ok (.aload_n 0, 1) := dk_42 (dk_at dksX2_checkHuts_0 5 rfl rfl)
theorem dX2_checkHuts_6 : decode cX2_checkHuts 6 = .ok (.iload_n 2, 1) := dk_28 (dk_at dksX2_checkHuts_0 6 rfl rfl)
theorem dX2_checkHuts_7 : decode cX2_checkHuts 7 = .ok (.invokevirtual 91, 3) := dk_182 0 91 (dk_at dksX2_checkHuts_0 7 rfl rfl)
theorem dX2_checkHuts_10 : decode cX2_checkHuts 10 = .ok (.return_, 1) := dk_177 (dk_at dksX2_checkHuts_0 10 rfl rfl)
abbrev cX2_ranked : ByteArray := prog_2_method_36_code
def yX2_ranked : MethodName := ⟨RX2, "ranked", "(I)I"⟩
def dkwX2_ranked_2 : List UInt8 := [132, 4, 1, 167, 255, 223, 29, 27, 160, 0, 5, 28, 172, 132, 2, 1, 167, 255, 194, 2, 172]
abbrev dktX2_ranked_2 : List UInt8 := dkwX2_ranked_2 ++ []
def dkwX2_ranked_1 : List UInt8 := [182, 0, 79, 162, 0, 27, 29, 42, 21, 4, 28, 182, 0, 238, 153, 0, 7, 4, 167, 0, 4, 3, 96, 62]
abbrev dktX2_ranked_1 : List UInt8 := dkwX2_ranked_1 ++ dktX2_ranked_2
def dkwX2_ranked_0 : List UInt8 := [3, 61, 28, 42, 180, 0, 18, 182, 0, 79, 162, 0, 57, 3, 62, 3, 54, 4, 21, 4, 42, 180, 0, 18]
abbrev dktX2_ranked_0 : List UInt8 := dkwX2_ranked_0 ++ dktX2_ranked_1
theorem dksX2_ranked_0 : cX2_ranked.data.toList.drop 0 = dktX2_ranked_0 := by decide +kernel
theorem dksX2_ranked_1 : cX2_ranked.data.toList.drop 24 = dktX2_ranked_1 := dk_seg dksX2_ranked_0 24 rfl rfl
theorem dksX2_ranked_2 : cX2_ranked.data.toList.drop 48 = dktX2_ranked_2 := dk_seg dksX2_ranked_1 24 rfl rfl
theorem dX2_ranked_0 : decode cX2_ranked 0 = .ok (.iconst 0, 1) := dk_3 (dk_at dksX2_ranked_0 0 rfl rfl)
theorem dX2_ranked_1 : decode cX2_ranked 1 = .ok (.istore_n 2, 1) := dk_61 (dk_at dksX2_ranked_0 1 rfl rfl)
theorem dX2_ranked_2 : decode cX2_ranked 2 = .ok (.iload_n 2, 1) := dk_28 (dk_at dksX2_ranked_0 2 rfl rfl)
theorem dX2_ranked_3 : decode cX2_ranked 3 = .ok (.aload_n 0, 1) := dk_42 (dk_at dksX2_ranked_0 3 rfl rfl)
theorem dX2_ranked_4 : decode cX2_ranked 4 = .ok (.getfield 18, 3) := dk_180 0 18 (dk_at dksX2_ranked_0 4 rfl rfl)
theorem dX2_ranked_7 : decode cX2_ranked 7 = .ok (.invokevirtual 79, 3) := dk_182 0 79 (dk_at dksX2_ranked_0 7 rfl rfl)
theorem dX2_ranked_10 : decode cX2_ranked 10 = .ok (.if_icmp .ge 57, 3) := dk_162 0 57 (dk_at dksX2_ranked_0 10 rfl rfl)
theorem dX2_ranked_13 : decode cX2_ranked 13 = .ok (.iconst 0, 1) := dk_3 (dk_at dksX2_ranked_0 13 rfl rfl)
theorem dX2_ranked_14 : decode cX2_ranked 14 = .ok (.istore_n 3, 1) := dk_62 (dk_at dksX2_ranked_0 14 rfl rfl)
theorem dX2_ranked_15 : decode cX2_ranked 15 = .ok (.iconst 0, 1) := dk_3 (dk_at dksX2_ranked_0 15 rfl rfl)
theorem dX2_ranked_16 : decode cX2_ranked 16 = .ok (.istore 4, 2) := dk_54 4 (dk_at dksX2_ranked_0 16 rfl rfl)
theorem dX2_ranked_18 : decode cX2_ranked 18 = .ok (.iload 4, 2) := dk_21 4 (dk_at dksX2_ranked_0 18 rfl rfl)
theorem dX2_ranked_20 : decode cX2_ranked 20 = .ok (.aload_n 0, 1) := dk_42 (dk_at dksX2_ranked_0 20 rfl rfl)
theorem dX2_ranked_21 : decode cX2_ranked 21 = .ok (.getfield 18, 3) := dk_180 0 18 (dk_at dksX2_ranked_0 21 rfl rfl)
theorem dX2_ranked_24 : decode cX2_ranked 24 = .ok (.invokevirtual 79, 3) := dk_182 0 79 (dk_at dksX2_ranked_1 0 rfl rfl)
theorem dX2_ranked_27 : decode cX2_ranked 27 = .ok (.if_icmp .ge 27, 3) := dk_162 0 27 (dk_at dksX2_ranked_1 3 rfl rfl)
theorem dX2_ranked_30 : decode cX2_ranked 30 = .ok (.iload_n 3, 1) := dk_29 (dk_at dksX2_ranked_1 6 rfl rfl)
theorem dX2_ranked_31 : decode cX2_ranked 31 = .ok (.aload_n 0, 1) := dk_42 (dk_at dksX2_ranked_1 7 rfl rfl)
theorem dX2_ranked_32 : decode cX2_ranked 32 = .ok (.iload 4, 2) := dk_21 4 (dk_at dksX2_ranked_1 8 rfl rfl)
theorem dX2_ranked_34 : decode cX2_ranked 34 = .ok (.iload_n 2, 1) := dk_28 (dk_at dksX2_ranked_1 10 rfl rfl)
theorem dX2_ranked_35 : decode cX2_ranked 35 = .ok (.invokevirtual 238, 3) := dk_182 0 238 (dk_at dksX2_ranked_1 11 rfl rfl)
theorem dX2_ranked_38 : decode cX2_ranked 38 = .ok (.ifCond .eq 7, 3) := dk_153 0 7 (dk_at dksX2_ranked_1 14 rfl rfl)
theorem dX2_ranked_41 : decode cX2_ranked 41 = .ok (.iconst 1, 1) := dk_4 (dk_at dksX2_ranked_1 17 rfl rfl)
theorem dX2_ranked_42 : decode cX2_ranked 42 = .ok (.goto 4, 3) := dk_167 0 4 (dk_at dksX2_ranked_1 18 rfl rfl)
theorem dX2_ranked_45 : decode cX2_ranked 45 = .ok (.iconst 0, 1) := dk_3 (dk_at dksX2_ranked_1 21 rfl rfl)
theorem dX2_ranked_46 : decode cX2_ranked 46 = .ok (.iadd, 1) := dk_96 (dk_at dksX2_ranked_1 22 rfl rfl)
theorem dX2_ranked_47 : decode cX2_ranked 47 = .ok (.istore_n 3, 1) := dk_62 (dk_at dksX2_ranked_1 23 rfl rfl)
theorem dX2_ranked_48 : decode cX2_ranked 48 = .ok (.iinc 4 1, 3) := dk_132 4 1 (dk_at dksX2_ranked_2 0 rfl rfl)
theorem dX2_ranked_51 : decode cX2_ranked 51 = .ok (.goto (-33), 3) := dk_167 255 223 (dk_at dksX2_ranked_2 3 rfl rfl)
theorem dX2_ranked_54 : decode cX2_ranked 54 = .ok (.iload_n 3, 1) := dk_29 (dk_at dksX2_ranked_2 6 rfl rfl)
theorem dX2_ranked_55 : decode cX2_ranked 55 = .ok (.iload_n 1, 1) := dk_27 (dk_at dksX2_ranked_2 7 rfl rfl)
theorem dX2_ranked_56 : decode cX2_ranked 56 = .ok (.if_icmp .ne 5, 3) := dk_160 0 5 (dk_at dksX2_ranked_2 8 rfl rfl)
theorem dX2_ranked_59 : decode cX2_ranked 59 = .ok (.iload_n 2, 1) := dk_28 (dk_at dksX2_ranked_2 11 rfl rfl)
theorem dX2_ranked_60 : decode cX2_ranked 60 = .ok (.ireturn, 1) := dk_172 (dk_at dksX2_ranked_2 12 rfl rfl)
theorem dX2_ranked_61 : decode cX2_ranked 61 = .ok (.iinc 2 1, 3) := dk_132 2 1 (dk_at dksX2_ranked_2 13 rfl rfl)
theorem dX2_ranked_64 : decode cX2_ranked 64 = .ok (.goto (-62), 3) := dk_167 255 194 (dk_at dksX2_ranked_2 16 rfl rfl)
theorem dX2_ranked_67 : decode cX2_ranked 67 = .ok (.iconst (-1), 1) := dk_2 (dk_at dksX2_ranked_2 19 rfl rfl)
theorem dX2_ranked_68 : decode cX2_ranked 68 = .ok (.ireturn, 1) := dk_172 (dk_at dksX2_ranked_2 20 rfl rfl)
abbrev cX2_isAhead : ByteArray := prog_2_method_35_code
def yX2_isAhead : MethodName := ⟨RX2, "isAhead", "(II)Z"⟩
def dkwX2_isAhead_2 : List UInt8 := [157, 0, 12, 29, 154, 0, 12, 27, 28, 162, 0, 7, 4, 167, 0, 4, 3, 172]
abbrev dktX2_isAhead_2 : List UInt8 := dkwX2_isAhead_2 ++ []
def dkwX2_isAhead_1 : List UInt8 := [167, 0, 20, 42, 28, 182, 0, 155, 182, 0, 159, 42, 27, 182, 0, 155, 182, 0, 159, 100, 62, 29]
abbrev dktX2_isAhead_1 : List UInt8 := dkwX2_isAhead_1 ++ dktX2_isAhead_2
def dkwX2_isAhead_0 : List UInt8 := [42, 27, 182, 0, 155, 182, 0, 236, 42, 28, 182, 0, 155, 182, 0, 236, 100, 62, 29, 153, 0, 7, 29]
abbrev dktX2_isAhead_0 : List UInt8 := dkwX2_isAhead_0 ++ dktX2_isAhead_1
theorem dksX2_isAhead_0 : cX2_isAhead.data.toList.drop 0 = dktX2_isAhead_0 := by decide +kernel
theorem dksX2_isAhead_1 : cX2_isAhead.data.toList.drop 23 = dktX2_isAhead_1 := dk_seg dksX2_isAhead_0 23 rfl rfl
theorem dksX2_isAhead_2 : cX2_isAhead.data.toList.drop 45 = dktX2_isAhead_2 := dk_seg dksX2_isAhead_1 22 rfl rfl
theorem dX2_isAhead_0 : decode cX2_isAhead 0 = .ok (.aload_n 0, 1) := dk_42 (dk_at dksX2_isAhead_0 0 rfl rfl)
theorem dX2_isAhead_1 : decode cX2_isAhead 1 = .ok (.iload_n 1, 1) := dk_27 (dk_at dksX2_isAhead_0 1 rfl rfl)
theorem dX2_isAhead_2 : decode cX2_isAhead 2 = .ok (.invokevirtual 155, 3) := dk_182 0 155 (dk_at dksX2_isAhead_0 2 rfl rfl)
theorem dX2_isAhead_5 : decode cX2_isAhead 5 = .ok (.invokevirtual 236, 3) := dk_182 0 236 (dk_at dksX2_isAhead_0 5 rfl rfl)
theorem dX2_isAhead_8 : decode cX2_isAhead 8 = .ok (.aload_n 0, 1) := dk_42 (dk_at dksX2_isAhead_0 8 rfl rfl)
theorem dX2_isAhead_9 : decode cX2_isAhead 9 = .ok (.iload_n 2, 1) := dk_28 (dk_at dksX2_isAhead_0 9 rfl rfl)
theorem dX2_isAhead_10 : decode cX2_isAhead 10 = .ok (.invokevirtual 155, 3) := dk_182 0 155 (dk_at dksX2_isAhead_0 10 rfl rfl)
theorem dX2_isAhead_13 : decode cX2_isAhead 13 = .ok (.invokevirtual 236, 3) := dk_182 0 236 (dk_at dksX2_isAhead_0 13 rfl rfl)
theorem dX2_isAhead_16 : decode cX2_isAhead 16 = .ok (.isub, 1) := dk_100 (dk_at dksX2_isAhead_0 16 rfl rfl)
theorem dX2_isAhead_17 : decode cX2_isAhead 17 = .ok (.istore_n 3, 1) := dk_62 (dk_at dksX2_isAhead_0 17 rfl rfl)
theorem dX2_isAhead_18 : decode cX2_isAhead 18 = .ok (.iload_n 3, 1) := dk_29 (dk_at dksX2_isAhead_0 18 rfl rfl)
theorem dX2_isAhead_19 : decode cX2_isAhead 19 = .ok (.ifCond .eq 7, 3) := dk_153 0 7 (dk_at dksX2_isAhead_0 19 rfl rfl)
theorem dX2_isAhead_22 : decode cX2_isAhead 22 = .ok (.iload_n 3, 1) := dk_29 (dk_at dksX2_isAhead_0 22 rfl rfl)
theorem dX2_isAhead_23 : decode cX2_isAhead 23 = .ok (.goto 20, 3) := dk_167 0 20 (dk_at dksX2_isAhead_1 0 rfl rfl)
theorem dX2_isAhead_26 : decode cX2_isAhead 26 = .ok (.aload_n 0, 1) := dk_42 (dk_at dksX2_isAhead_1 3 rfl rfl)
theorem dX2_isAhead_27 : decode cX2_isAhead 27 = .ok (.iload_n 2, 1) := dk_28 (dk_at dksX2_isAhead_1 4 rfl rfl)
theorem dX2_isAhead_28 : decode cX2_isAhead 28 = .ok (.invokevirtual 155, 3) := dk_182 0 155 (dk_at dksX2_isAhead_1 5 rfl rfl)
theorem dX2_isAhead_31 : decode cX2_isAhead 31 = .ok (.invokevirtual 159, 3) := dk_182 0 159 (dk_at dksX2_isAhead_1 8 rfl rfl)
theorem dX2_isAhead_34 : decode cX2_isAhead 34 = .ok (.aload_n 0, 1) := dk_42 (dk_at dksX2_isAhead_1 11 rfl rfl)
theorem dX2_isAhead_35 : decode cX2_isAhead 35 = .ok (.iload_n 1, 1) := dk_27 (dk_at dksX2_isAhead_1 12 rfl rfl)
theorem dX2_isAhead_36 : decode cX2_isAhead 36 = .ok (.invokevirtual 155, 3) := dk_182 0 155 (dk_at dksX2_isAhead_1 13 rfl rfl)
theorem dX2_isAhead_39 : decode cX2_isAhead 39 = .ok (.invokevirtual 159, 3) := dk_182 0 159 (dk_at dksX2_isAhead_1 16 rfl rfl)
theorem dX2_isAhead_42 : decode cX2_isAhead 42 = .ok (.isub, 1) := dk_100 (dk_at dksX2_isAhead_1 19 rfl rfl)
theorem dX2_isAhead_43 : decode cX2_isAhead 43 = .ok (.istore_n 3, 1) := dk_62 (dk_at dksX2_isAhead_1 20 rfl rfl)
theorem dX2_isAhead_44 : decode cX2_isAhead 44 = .ok (.iload_n 3, 1) := dk_29 (dk_at dksX2_isAhead_1 21 rfl rfl)
theorem dX2_isAhead_45 : decode cX2_isAhead 45 = .ok (.ifCond .gt 12, 3) := dk_157 0 12 (dk_at dksX2_isAhead_2 0 rfl rfl)
theorem dX2_isAhead_48 : decode cX2_isAhead 48 = .ok (.iload_n 3, 1) := dk_29 (dk_at dksX2_isAhead_2 3 rfl rfl)
theorem dX2_isAhead_49 : decode cX2_isAhead 49 = .ok (.ifCond .ne 12, 3) := dk_154 0 12 (dk_at dksX2_isAhead_2 4 rfl rfl)
theorem dX2_isAhead_52 : decode cX2_isAhead 52 = .ok (.iload_n 1, 1) := dk_27 (dk_at dksX2_isAhead_2 7 rfl rfl)
theorem dX2_isAhead_53 : decode cX2_isAhead 53 = .ok (.iload_n 2, 1) := dk_28 (dk_at dksX2_isAhead_2 8 rfl rfl)
theorem dX2_isAhead_54 : decode cX2_isAhead 54 = .ok (.if_icmp .ge 7, 3) := dk_162 0 7 (dk_at dksX2_isAhead_2 9 rfl rfl)
theorem dX2_isAhead_57 : decode cX2_isAhead 57 = .ok (.iconst 1, 1) := dk_4 (dk_at dksX2_isAhead_2 12 rfl rfl)
theorem dX2_isAhead_58 : decode cX2_isAhead 58 = .ok (.goto 4, 3) := dk_167 0 4 (dk_at dksX2_isAhead_2 13 rfl rfl)
theorem dX2_isAhead_61 : decode cX2_isAhead 61 = .ok (.iconst 0, 1) := dk_3 (dk_at dksX2_isAhead_2 16 rfl rfl)
theorem dX2_isAhead_62 : decode cX2_isAhead 62 = .ok (.ireturn, 1) := dk_172 (dk_at dksX2_isAhead_2 17 rfl rfl)
abbrev cX2_told_2 : ByteArray := prog_2_method_38_code
def yX2_told_2 : MethodName := ⟨RX2, "told", "(I)Ljava/lang/String;"⟩
def dkwX2_told_2_5 : List UInt8 := [45, 182, 1, 0, 176]
abbrev dktX2_told_2_5 : List UInt8 := dkwX2_told_2_5 ++ []
def dkwX2_told_2_4 : List UInt8 := [182, 0, 248, 42, 180, 0, 12, 25, 7, 182, 0, 232, 182, 0, 252, 58, 4, 16, 44, 54, 5, 167, 255, 210]
abbrev dktX2_told_2_4 : List UInt8 := dkwX2_told_2_4 ++ dktX2_told_2_5
def dkwX2_told_2_3 : List UInt8 := [185, 0, 30, 1, 0, 153, 0, 42, 25, 6, 185, 0, 36, 1, 0, 192, 0, 40, 58, 7, 45, 21, 5]
abbrev dktX2_told_2_3 : List UInt8 := dkwX2_told_2_3 ++ dktX2_told_2_4
def dkwX2_told_2_2 : List UInt8 := [182, 0, 248, 58, 4, 16, 58, 54, 5, 42, 27, 182, 0, 155, 182, 0, 255, 58, 6, 25, 6]
abbrev dktX2_told_2_2 : List UInt8 := dkwX2_told_2_2 ++ dktX2_told_2_3
def dkwX2_told_2_1 : List UInt8 := [182, 0, 248, 44, 180, 0, 213, 182, 0, 252, 16, 44, 182, 0, 248, 44, 180, 0, 214, 182, 0, 252, 16, 41]
abbrev dktX2_told_2_1 : List UInt8 := dkwX2_told_2_1 ++ dktX2_told_2_2
def dkwX2_told_2_0 : List UInt8 := [42, 180, 0, 18, 27, 182, 0, 95, 192, 0, 50, 77, 187, 0, 245, 89, 183, 0, 247, 78, 45, 16, 40]
abbrev dktX2_told_2_0 : List UInt8 := dkwX2_told_2_0 ++ dktX2_told_2_1
theorem dksX2_told_2_0 : cX2_told_2.data.toList.drop 0 = dktX2_told_2_0 := by decide +kernel
theorem dksX2_told_2_1 : cX2_told_2.data.toList.drop 23 = dktX2_told_2_1 := dk_seg dksX2_told_2_0 23 rfl rfl
theorem dksX2_told_2_2 : cX2_told_2.data.toList.drop 47 = dktX2_told_2_2 := dk_seg dksX2_told_2_1 24 rfl rfl
theorem dksX2_told_2_3 : cX2_told_2.data.toList.drop 68 = dktX2_told_2_3 := dk_seg dksX2_told_2_2 21 rfl rfl
theorem dksX2_told_2_4 : cX2_told_2.data.toList.drop 91 = dktX2_told_2_4 := dk_seg dksX2_told_2_3 23 rfl rfl
theorem dksX2_told_2_5 : cX2_told_2.data.toList.drop 115 = dktX2_told_2_5 := dk_seg dksX2_told_2_4 24 rfl rfl
theorem dX2_told_2_0 : decode cX2_told_2 0 = .ok (.aload_n 0, 1) := dk_42 (dk_at dksX2_told_2_0 0 rfl rfl)
theorem dX2_told_2_1 : decode cX2_told_2 1 = .ok (.getfield 18, 3) := dk_180 0 18 (dk_at dksX2_told_2_0 1 rfl rfl)
theorem dX2_told_2_4 : decode cX2_told_2 4 = .ok (.iload_n 1, 1) := dk_27 (dk_at dksX2_told_2_0 4 rfl rfl)
theorem dX2_told_2_5 : decode cX2_told_2 5 = .ok (.invokevirtual 95, 3) := dk_182 0 95 (dk_at dksX2_told_2_0 5 rfl rfl)
theorem dX2_told_2_8 : decode cX2_told_2 8 = .ok (.checkcast 50, 3) := dk_192 0 50 (dk_at dksX2_told_2_0 8 rfl rfl)
theorem dX2_told_2_11 : decode cX2_told_2 11 = .ok (.astore_n 2, 1) := dk_77 (dk_at dksX2_told_2_0 11 rfl rfl)
theorem dX2_told_2_12 : decode cX2_told_2 12 = .ok (.new 245, 3) := dk_187 0 245 (dk_at dksX2_told_2_0 12 rfl rfl)
theorem dX2_told_2_15 : decode cX2_told_2 15 = .ok (.dup, 1) := dk_89 (dk_at dksX2_told_2_0 15 rfl rfl)
theorem dX2_told_2_16 : decode cX2_told_2 16 = .ok (.invokespecial 247, 3) := dk_183 0 247 (dk_at dksX2_told_2_0 16 rfl rfl)
theorem dX2_told_2_19 : decode cX2_told_2 19 = .ok (.astore_n 3, 1) := dk_78 (dk_at dksX2_told_2_0 19 rfl rfl)
theorem dX2_told_2_20 : decode cX2_told_2 20 = .ok (.aload_n 3, 1) := dk_45 (dk_at dksX2_told_2_0 20 rfl rfl)
theorem dX2_told_2_21 : decode cX2_told_2 21 = .ok (.bipush 40, 2) := dk_16 40 (dk_at dksX2_told_2_0 21 rfl rfl)
theorem dX2_told_2_23 : decode cX2_told_2 23 = .ok (.invokevirtual 248, 3) := dk_182 0 248 (dk_at dksX2_told_2_1 0 rfl rfl)
theorem dX2_told_2_26 : decode cX2_told_2 26 = .ok (.aload_n 2, 1) := dk_44 (dk_at dksX2_told_2_1 3 rfl rfl)
theorem dX2_told_2_27 : decode cX2_told_2 27 = .ok (.getfield 213, 3) := dk_180 0 213 (dk_at dksX2_told_2_1 4 rfl rfl)
theorem dX2_told_2_30 : decode cX2_told_2 30 = .ok (.invokevirtual 252, 3) := dk_182 0 252 (dk_at dksX2_told_2_1 7 rfl rfl)
theorem dX2_told_2_33 : decode cX2_told_2 33 = .ok (.bipush 44, 2) := dk_16 44 (dk_at dksX2_told_2_1 10 rfl rfl)
theorem dX2_told_2_35 : decode cX2_told_2 35 = .ok (.invokevirtual 248, 3) := dk_182 0 248 (dk_at dksX2_told_2_1 12 rfl rfl)
theorem dX2_told_2_38 : decode cX2_told_2 38 = .ok (.aload_n 2, 1) := dk_44 (dk_at dksX2_told_2_1 15 rfl rfl)
theorem dX2_told_2_39 : decode cX2_told_2 39 = .ok (.getfield 214, 3) := dk_180 0 214 (dk_at dksX2_told_2_1 16 rfl rfl)
theorem dX2_told_2_42 : decode cX2_told_2 42 = .ok (.invokevirtual 252, 3) := dk_182 0 252 (dk_at dksX2_told_2_1 19 rfl rfl)
theorem dX2_told_2_45 : decode cX2_told_2 45 = .ok (.bipush 41, 2) := dk_16 41 (dk_at dksX2_told_2_1 22 rfl rfl)
theorem dX2_told_2_47 : decode cX2_told_2 47 = .ok (.invokevirtual 248, 3) := dk_182 0 248 (dk_at dksX2_told_2_2 0 rfl rfl)
theorem dX2_told_2_50 : decode cX2_told_2 50 = .ok (.astore 4, 2) := dk_58 4 (dk_at dksX2_told_2_2 3 rfl rfl)
theorem dX2_told_2_52 : decode cX2_told_2 52 = .ok (.bipush 58, 2) := dk_16 58 (dk_at dksX2_told_2_2 5 rfl rfl)
theorem dX2_told_2_54 : decode cX2_told_2 54 = .ok (.istore 5, 2) := dk_54 5 (dk_at dksX2_told_2_2 7 rfl rfl)
theorem dX2_told_2_56 : decode cX2_told_2 56 = .ok (.aload_n 0, 1) := dk_42 (dk_at dksX2_told_2_2 9 rfl rfl)
theorem dX2_told_2_57 : decode cX2_told_2 57 = .ok (.iload_n 1, 1) := dk_27 (dk_at dksX2_told_2_2 10 rfl rfl)
theorem dX2_told_2_58 : decode cX2_told_2 58 = .ok (.invokevirtual 155, 3) := dk_182 0 155 (dk_at dksX2_told_2_2 11 rfl rfl)
theorem dX2_told_2_61 : decode cX2_told_2 61 = .ok (.invokevirtual 255, 3) := dk_182 0 255 (dk_at dksX2_told_2_2 14 rfl rfl)
theorem dX2_told_2_64 : decode cX2_told_2 64 = .ok (.astore 6, 2) := dk_58 6 (dk_at dksX2_told_2_2 17 rfl rfl)
theorem dX2_told_2_66 : decode cX2_told_2 66 = .ok (.aload 6, 2) := dk_25 6 (dk_at dksX2_told_2_2 19 rfl rfl)
theorem dX2_told_2_68 : decode cX2_told_2 68 = .ok (.invokeinterface 30 1, 5) := by decide +kernel
theorem dX2_told_2_73 : decode cX2_told_2 73 = .ok (.ifCond .eq 42, 3) := dk_153 0 42 (dk_at dksX2_told_2_3 5 rfl rfl)
theorem dX2_told_2_76 : decode cX2_told_2 76 = .ok (.aload 6, 2) := dk_25 6 (dk_at dksX2_told_2_3 8 rfl rfl)
theorem dX2_told_2_78 : decode cX2_told_2 78 = .ok (.invokeinterface 36 1, 5) := by decide +kernel
theorem dX2_told_2_83 : decode cX2_told_2 83 = .ok (.checkcast 40, 3) := dk_192 0 40 (dk_at dksX2_told_2_3 15 rfl rfl)
theorem dX2_told_2_86 : decode cX2_told_2 86 = .ok (.astore 7, 2) := dk_58 7 (dk_at dksX2_told_2_3 18 rfl rfl)
theorem dX2_told_2_88 : decode cX2_told_2 88 = .ok (.aload_n 3, 1) := dk_45 (dk_at dksX2_told_2_3 20 rfl rfl)
theorem dX2_told_2_89 : decode cX2_told_2 89 = .ok (.iload 5, 2) := dk_21 5 (dk_at dksX2_told_2_3 21 rfl rfl)
theorem dX2_told_2_91 : decode cX2_told_2 91 = .ok (.invokevirtual 248, 3) := dk_182 0 248 (dk_at dksX2_told_2_4 0 rfl rfl)
theorem dX2_told_2_94 : decode cX2_told_2 94 = .ok (.aload_n 0, 1) := dk_42 (dk_at dksX2_told_2_4 3 rfl rfl)
theorem dX2_told_2_95 : decode cX2_told_2 95 = .ok (.getfield 12, 3) := dk_180 0 12 (dk_at dksX2_told_2_4 4 rfl rfl)
theorem dX2_told_2_98 : decode cX2_told_2 98 = .ok (.aload 7, 2) := dk_25 7 (dk_at dksX2_told_2_4 7 rfl rfl)
theorem dX2_told_2_100 : decode cX2_told_2 100 = .ok (.invokevirtual 232, 3) := dk_182 0 232 (dk_at dksX2_told_2_4 9 rfl rfl)
theorem dX2_told_2_103 : decode cX2_told_2 103 = .ok (.invokevirtual 252, 3) := dk_182 0 252 (dk_at dksX2_told_2_4 12 rfl rfl)
theorem dX2_told_2_106 : decode cX2_told_2 106 = .ok (.astore 4, 2) := dk_58 4 (dk_at dksX2_told_2_4 15 rfl rfl)
theorem dX2_told_2_108 : decode cX2_told_2 108 = .ok (.bipush 44, 2) := dk_16 44 (dk_at dksX2_told_2_4 17 rfl rfl)
theorem dX2_told_2_110 : decode cX2_told_2 110 = .ok (.istore 5, 2) := dk_54 5 (dk_at dksX2_told_2_4 19 rfl rfl)
theorem dX2_told_2_112 : decode cX2_told_2 112 = .ok (.goto (-46), 3) := dk_167 255 210 (dk_at dksX2_told_2_4 21 rfl rfl)
theorem dX2_told_2_115 : decode cX2_told_2 115 = .ok (.aload_n 3, 1) := dk_45 (dk_at dksX2_told_2_5 0 rfl rfl)
theorem dX2_told_2_116 : decode cX2_told_2 116 = .ok (.invokevirtual 256, 3) := dk_182 1 0 (dk_at dksX2_told_2_5 1 rfl rfl)
theorem dX2_told_2_119 : decode cX2_told_2 119 = .ok (.areturn, 1) := dk_176 (dk_at dksX2_told_2_5 4 rfl rfl)
theorem q78 : (Jvm.Cond.initialized "FlockHuts$Field") ∈ lw_all := lw_g (lw_at lw_m1 2 rfl) rfl
theorem q127 : (Jvm.Cond.instantiable "FlockHuts$Field" (7 : Nat)) ∈ lw_all := lw_g (lw_at lw_m1 51 rfl) rfl
theorem q129 : (Jvm.Cond.instanceMethod ({ cls := "FlockHuts$Field", name := "<init>", desc := "()V" } : Jvm.MethodName)) ∈ lw_all := lw_g (lw_at lw_m1 53 rfl) rfl
theorem q130 : (Jvm.Cond.code ({ cls := "FlockHuts$Field", name := "<init>", desc := "()V" } : Jvm.MethodName) prog_2_method_1_code (1 : Nat) (Option.none : Option Jvm.ClassFile.FieldType)) ∈ lw_all := lw_g (lw_at lw_m1 54 rfl) rfl
theorem q131 : (Jvm.Cond.methodLink "FlockHuts$Field" (3 : Nat) ({ cls := "java/lang/Object", name := "<init>", desc := "()V" } : Jvm.MethodName)) ∈ lw_all := lw_g (lw_at lw_m1 55 rfl) rfl
theorem q132 : (Jvm.Cond.classLink "FlockHuts$Field" (9 : Nat) "java/util/ArrayList") ∈ lw_all := lw_g (lw_at lw_m1 56 rfl) rfl
theorem q134 : (Jvm.Cond.methodLink "FlockHuts$Field" (11 : Nat) ({ cls := "java/util/ArrayList", name := "<init>", desc := "()V" } : Jvm.MethodName)) ∈ lw_all := lw_g (lw_at lw_m1 58 rfl) rfl
theorem q161 : (Jvm.Cond.fieldLink "FlockHuts$Field" (12 : Nat) "FlockHuts$Field" "sheep" "Ljava/util/ArrayList;") ∈ lw_all := lw_g (lw_at lw_m1 85 rfl) rfl
theorem q164 : (Jvm.Cond.fieldLink "FlockHuts$Field" (18 : Nat) "FlockHuts$Field" "huts" "Ljava/util/ArrayList;") ∈ lw_all := lw_g (lw_at lw_m1 88 rfl) rfl
theorem q167 : (Jvm.Cond.fieldLink "FlockHuts$Field" (21 : Nat) "FlockHuts$Field" "dogs" "[I") ∈ lw_all := lw_g (lw_at lw_m1 91 rfl) rfl
theorem q169 : (Jvm.Cond.fieldLink "FlockHuts$Field" (61 : Nat) "FlockHuts$Field" "rounds" "I") ∈ lw_all := lw_g (lw_at lw_m1 93 rfl) rfl
theorem q171 : (Jvm.Cond.fieldLink "FlockHuts$Field" (65 : Nat) "FlockHuts$Field" "anew" "I") ∈ lw_all := lw_g (lw_at lw_m1 95 rfl) rfl
theorem q173 : (Jvm.Cond.fieldLink "FlockHuts$Field" (68 : Nat) "FlockHuts$Field" "fetched" "I") ∈ lw_all := lw_g (lw_at lw_m1 97 rfl) rfl
theorem q175 : (Jvm.Cond.fieldLink "FlockHuts$Field" (71 : Nat) "FlockHuts$Field" "changed" "I") ∈ lw_all := lw_g (lw_at lw_m1 99 rfl) rfl
theorem q177 : (Jvm.Cond.laysFinal "FlockHuts$Field" "FlockHuts$Field" "sheep" "Ljava/util/ArrayList;") ∈ lw_all := lw_g (lw_at lw_m1 101 rfl) rfl
theorem q178 : (Jvm.Cond.soleField "FlockHuts$Field" "sheep") ∈ lw_all := lw_g (lw_at lw_m1 102 rfl) rfl
theorem q179 : (Jvm.Cond.laysFinal "FlockHuts$Field" "FlockHuts$Field" "huts" "Ljava/util/ArrayList;") ∈ lw_all := lw_g (lw_at lw_m1 103 rfl) rfl
theorem q180 : (Jvm.Cond.soleField "FlockHuts$Field" "huts") ∈ lw_all := lw_g (lw_at lw_m1 104 rfl) rfl
theorem q181 : (Jvm.Cond.laysFinal "FlockHuts$Field" "FlockHuts$Field" "dogs" "[I") ∈ lw_all := lw_g (lw_at lw_m1 105 rfl) rfl
theorem q182 : (Jvm.Cond.soleField "FlockHuts$Field" "dogs") ∈ lw_all := lw_g (lw_at lw_m1 106 rfl) rfl
theorem q183 : (Jvm.Cond.lays "FlockHuts$Field" "FlockHuts$Field" "rounds" "I") ∈ lw_all := lw_g (lw_at lw_m1 107 rfl) rfl
theorem q184 : (Jvm.Cond.soleField "FlockHuts$Field" "rounds") ∈ lw_all := lw_g (lw_at lw_m1 108 rfl) rfl
theorem q185 : (Jvm.Cond.lays "FlockHuts$Field" "FlockHuts$Field" "anew" "I") ∈ lw_all := lw_g (lw_at lw_m1 109 rfl) rfl
theorem q186 : (Jvm.Cond.soleField "FlockHuts$Field" "anew") ∈ lw_all := lw_g (lw_at lw_m1 110 rfl) rfl
theorem q187 : (Jvm.Cond.lays "FlockHuts$Field" "FlockHuts$Field" "fetched" "I") ∈ lw_all := lw_g (lw_at lw_m1 111 rfl) rfl
theorem q188 : (Jvm.Cond.soleField "FlockHuts$Field" "fetched") ∈ lw_all := lw_g (lw_at lw_m1 112 rfl) rfl
theorem q189 : (Jvm.Cond.lays "FlockHuts$Field" "FlockHuts$Field" "changed" "I") ∈ lw_all := lw_g (lw_at lw_m1 113 rfl) rfl
theorem q190 : (Jvm.Cond.soleField "FlockHuts$Field" "changed") ∈ lw_all := lw_g (lw_at lw_m1 114 rfl) rfl
theorem q191 : (Jvm.Cond.superclass "FlockHuts$Field" "java/lang/Object") ∈ lw_all := lw_g (lw_at lw_m1 115 rfl) rfl
theorem q289 : (Jvm.Cond.instanceMethod ({ cls := "FlockHuts$Field", name := "isStill", desc := "()Z" } : Jvm.MethodName)) ∈ lw_all := lw_g (lw_at lw_m1 213 rfl) rfl
theorem q290 : (Jvm.Cond.selects "FlockHuts$Field" ({ cls := "FlockHuts$Field", name := "isStill", desc := "()Z" } : Jvm.MethodName) ({ cls := "FlockHuts$Field", name := "isStill", desc := "()Z" } : Jvm.MethodName)) ∈ lw_all := lw_g (lw_at lw_m1 214 rfl) rfl
theorem q291 : (Jvm.Cond.code ({ cls := "FlockHuts$Field", name := "isStill", desc := "()Z" } : Jvm.MethodName) prog_2_method_23_code (4 : Nat) (Option.some Jvm.ClassFile.FieldType.boolean)) ∈ lw_all := lw_g (lw_at lw_m1 215 rfl) rfl
theorem q292 : (Jvm.Cond.methodLink "FlockHuts$Field" (189 : Nat) ({ cls := "FlockHuts$Field", name := "copy", desc := "()LFlockHuts$Field;" } : Jvm.MethodName)) ∈ lw_all := lw_g (lw_at lw_m1 216 rfl) rfl
theorem q293 : (Jvm.Cond.instanceMethod ({ cls := "FlockHuts$Field", name := "copy", desc := "()LFlockHuts$Field;" } : Jvm.MethodName)) ∈ lw_all := lw_g (lw_at lw_m1 217 rfl) rfl
theorem q294 : (Jvm.Cond.selects "FlockHuts$Field" ({ cls := "FlockHuts$Field", name := "copy", desc := "()LFlockHuts$Field;" } : Jvm.MethodName) ({ cls := "FlockHuts$Field", name := "copy", desc := "()LFlockHuts$Field;" } : Jvm.MethodName)) ∈ lw_all := lw_g (lw_at lw_m1 218 rfl) rfl
theorem q295 : (Jvm.Cond.code ({ cls := "FlockHuts$Field", name := "copy", desc := "()LFlockHuts$Field;" } : Jvm.MethodName) prog_2_method_2_code (5 : Nat) (Option.some (Jvm.ClassFile.FieldType.object "FlockHuts$Field"))) ∈ lw_all := lw_g (lw_at lw_m1 219 rfl) rfl
theorem q296 : (Jvm.Cond.classLink "FlockHuts$Field" (13 : Nat) "FlockHuts$Field") ∈ lw_all := lw_g (lw_at lw_m1 220 rfl) rfl
theorem q297 : (Jvm.Cond.methodLink "FlockHuts$Field" (25 : Nat) ({ cls := "FlockHuts$Field", name := "<init>", desc := "()V" } : Jvm.MethodName)) ∈ lw_all := lw_g (lw_at lw_m1 221 rfl) rfl
theorem q298 : (Jvm.Cond.methodLink "FlockHuts$Field" (26 : Nat) ({ cls := "java/util/ArrayList", name := "iterator", desc := "()Ljava/util/Iterator;" } : Jvm.MethodName)) ∈ lw_all := lw_g (lw_at lw_m1 222 rfl) rfl
theorem q321 : (Jvm.Cond.interfaceEntry "FlockHuts$Field" (30 : Nat)) ∈ lw_tbl := lw_at lw_m2 5 rfl
theorem q322 : (Jvm.Cond.methodLink "FlockHuts$Field" (30 : Nat) ({ cls := "java/util/Iterator", name := "hasNext", desc := "()Z" } : Jvm.MethodName)) ∈ lw_all := lw_g (lw_at lw_m2 6 rfl) rfl
theorem q338 : (Jvm.Cond.interfaceEntry "FlockHuts$Field" (36 : Nat)) ∈ lw_tbl := lw_at lw_m2 22 rfl
theorem q339 : (Jvm.Cond.methodLink "FlockHuts$Field" (36 : Nat) ({ cls := "java/util/Iterator", name := "next", desc := "()Ljava/lang/Object;" } : Jvm.MethodName)) ∈ lw_all := lw_g (lw_at lw_m2 23 rfl) rfl
theorem q456 : (Jvm.Cond.classLink "FlockHuts$Field" (40 : Nat) "FlockHuts$Sheep") ∈ lw_all := lw_g (lw_at lw_m2 140 rfl) rfl
theorem q457 : (Jvm.Cond.methodLink "FlockHuts$Field" (42 : Nat) ({ cls := "FlockHuts$Sheep", name := "copy", desc := "()LFlockHuts$Sheep;" } : Jvm.MethodName)) ∈ lw_all := lw_g (lw_at lw_m2 141 rfl) rfl
theorem q470 : (Jvm.Cond.fieldLinkNest "FlockHuts$Field" (207 : Nat) "FlockHuts$Sheep" "x" "I" "FlockHuts") ∈ lw_tbl := lw_at lw_m2 154 rfl
theorem q474 : (Jvm.Cond.fieldLinkNest "FlockHuts$Field" (210 : Nat) "FlockHuts$Sheep" "y" "I" "FlockHuts") ∈ lw_tbl := lw_at lw_m2 158 rfl
theorem q478 : (Jvm.Cond.fieldLinkNest "FlockHuts$Field" (172 : Nat) "FlockHuts$Sheep" "weight" "I" "FlockHuts") ∈ lw_tbl := lw_at lw_m2 162 rfl
theorem q481 : (Jvm.Cond.fieldLinkNest "FlockHuts$Field" (107 : Nat) "FlockHuts$Sheep" "hut" "I" "FlockHuts") ∈ lw_tbl := lw_at lw_m2 165 rfl
theorem q492 : (Jvm.Cond.methodLink "FlockHuts$Field" (46 : Nat) ({ cls := "java/util/ArrayList", name := "add", desc := "(Ljava/lang/Object;)Z" } : Jvm.MethodName)) ∈ lw_all := lw_g (lw_at lw_m2 176 rfl) rfl
theorem q525 : (Jvm.Cond.selects "FlockHuts$Field" ({ cls := "java/lang/Object", name := "getClass", desc := "()Ljava/lang/Class;" } : Jvm.MethodName) ({ cls := "java/lang/Object", name := "getClass", desc := "()Ljava/lang/Class;" } : Jvm.MethodName)) ∈ lw_all := lw_g (lw_at lw_m2 209 rfl) rfl
theorem q563 : (Jvm.Cond.classLink "FlockHuts$Field" (50 : Nat) "FlockHuts$Hut") ∈ lw_all := lw_g (lw_at lw_m3 7 rfl) rfl
theorem q565 : (Jvm.Cond.methodLink "FlockHuts$Field" (52 : Nat) ({ cls := "FlockHuts$Hut", name := "<init>", desc := "(LFlockHuts$Placed;)V" } : Jvm.MethodName)) ∈ lw_all := lw_g (lw_at lw_m3 9 rfl) rfl
theorem q616 : (Jvm.Cond.fieldLinkNest "FlockHuts$Field" (213 : Nat) "FlockHuts$Hut" "x" "I" "FlockHuts") ∈ lw_tbl := lw_at lw_m3 60 rfl
theorem q619 : (Jvm.Cond.fieldLinkNest "FlockHuts$Field" (214 : Nat) "FlockHuts$Hut" "y" "I" "FlockHuts") ∈ lw_tbl := lw_at lw_m3 63 rfl
theorem q625 : (Jvm.Cond.methodLink "FlockHuts$Field" (55 : Nat) ({ cls := "java/lang/System", name := "arraycopy", desc := "(Ljava/lang/Object;ILjava/lang/Object;II)V" } : Jvm.MethodName)) ∈ lw_all := lw_g (lw_at lw_m3 69 rfl) rfl
theorem q626 : (Jvm.Cond.methodLink "FlockHuts$Field" (192 : Nat) ({ cls := "java/util/ArrayList", name := "isEmpty", desc := "()Z" } : Jvm.MethodName)) ∈ lw_all := lw_g (lw_at lw_m3 70 rfl) rfl
theorem q630 : (Jvm.Cond.methodLink "FlockHuts$Field" (193 : Nat) ({ cls := "FlockHuts$Field", name := "makeRound", desc := "()I" } : Jvm.MethodName)) ∈ lw_all := lw_g (lw_at lw_m3 74 rfl) rfl
theorem q631 : (Jvm.Cond.privateMethod ({ cls := "FlockHuts$Field", name := "makeRound", desc := "()I" } : Jvm.MethodName)) ∈ lw_tbl := lw_at lw_m3 75 rfl
theorem q632 : (Jvm.Cond.instanceMethod ({ cls := "FlockHuts$Field", name := "makeRound", desc := "()I" } : Jvm.MethodName)) ∈ lw_all := lw_g (lw_at lw_m3 76 rfl) rfl
theorem q633 : (Jvm.Cond.code ({ cls := "FlockHuts$Field", name := "makeRound", desc := "()I" } : Jvm.MethodName) prog_2_method_22_code (5 : Nat) (Option.some Jvm.ClassFile.FieldType.int)) ∈ lw_all := lw_g (lw_at lw_m3 77 rfl) rfl
theorem q634 : (Jvm.Cond.methodLink "FlockHuts$Field" (111 : Nat) ({ cls := "FlockHuts$Field", name := "nearest", desc := "(LFlockHuts$Placed;)I" } : Jvm.MethodName)) ∈ lw_all := lw_g (lw_at lw_m3 78 rfl) rfl
theorem q635 : (Jvm.Cond.instanceMethod ({ cls := "FlockHuts$Field", name := "nearest", desc := "(LFlockHuts$Placed;)I" } : Jvm.MethodName)) ∈ lw_all := lw_g (lw_at lw_m3 79 rfl) rfl
theorem q636 : (Jvm.Cond.selects "FlockHuts$Field" ({ cls := "FlockHuts$Field", name := "nearest", desc := "(LFlockHuts$Placed;)I" } : Jvm.MethodName) ({ cls := "FlockHuts$Field", name := "nearest", desc := "(LFlockHuts$Placed;)I" } : Jvm.MethodName)) ∈ lw_all := lw_g (lw_at lw_m3 80 rfl) rfl
theorem q637 : (Jvm.Cond.code ({ cls := "FlockHuts$Field", name := "nearest", desc := "(LFlockHuts$Placed;)I" } : Jvm.MethodName) prog_2_method_8_code (5 : Nat) (Option.some Jvm.ClassFile.FieldType.int)) ∈ lw_all := lw_g (lw_at lw_m3 81 rfl) rfl
theorem q638 : (Jvm.Cond.methodLink "FlockHuts$Field" (79 : Nat) ({ cls := "java/util/ArrayList", name := "size", desc := "()I" } : Jvm.MethodName)) ∈ lw_all := lw_g (lw_at lw_m3 82 rfl) rfl
theorem q639 : (Jvm.Cond.methodLink "FlockHuts$Field" (95 : Nat) ({ cls := "java/util/ArrayList", name := "get", desc := "(I)Ljava/lang/Object;" } : Jvm.MethodName)) ∈ lw_all := lw_g (lw_at lw_m3 83 rfl) rfl
theorem q640 : (Jvm.Cond.classLink "FlockHuts$Field" (101 : Nat) "FlockHuts$Placed") ∈ lw_all := lw_g (lw_at lw_m3 84 rfl) rfl
theorem q641 : (Jvm.Cond.interfaceEntry "FlockHuts$Field" (103 : Nat)) ∈ lw_tbl := lw_at lw_m3 85 rfl
theorem q642 : (Jvm.Cond.methodLink "FlockHuts$Field" (103 : Nat) ({ cls := "FlockHuts$Placed", name := "distance", desc := "(LFlockHuts$Placed;)I" } : Jvm.MethodName)) ∈ lw_all := lw_g (lw_at lw_m3 86 rfl) rfl
theorem q655 : (Jvm.Cond.methodLink "FlockHuts$Field" (175 : Nat) ({ cls := "FlockHuts$Field", name := "belong", desc := "(LFlockHuts$Sheep;I)V" } : Jvm.MethodName)) ∈ lw_all := lw_g (lw_at lw_m3 99 rfl) rfl
theorem q656 : (Jvm.Cond.privateMethod ({ cls := "FlockHuts$Field", name := "belong", desc := "(LFlockHuts$Sheep;I)V" } : Jvm.MethodName)) ∈ lw_tbl := lw_at lw_m3 100 rfl
theorem q657 : (Jvm.Cond.instanceMethod ({ cls := "FlockHuts$Field", name := "belong", desc := "(LFlockHuts$Sheep;I)V" } : Jvm.MethodName)) ∈ lw_all := lw_g (lw_at lw_m3 101 rfl) rfl
theorem q658 : (Jvm.Cond.code ({ cls := "FlockHuts$Field", name := "belong", desc := "(LFlockHuts$Sheep;I)V" } : Jvm.MethodName) prog_2_method_20_code (3 : Nat) (Option.none : Option Jvm.ClassFile.FieldType)) ∈ lw_all := lw_g (lw_at lw_m3 102 rfl) rfl
theorem q659 : (Jvm.Cond.methodLink "FlockHuts$Field" (155 : Nat) ({ cls := "FlockHuts$Field", name := "flock", desc := "(I)LFlockHuts$Field$Flock;" } : Jvm.MethodName)) ∈ lw_all := lw_g (lw_at lw_m3 103 rfl) rfl
theorem q660 : (Jvm.Cond.instanceMethod ({ cls := "FlockHuts$Field", name := "flock", desc := "(I)LFlockHuts$Field$Flock;" } : Jvm.MethodName)) ∈ lw_all := lw_g (lw_at lw_m3 104 rfl) rfl
theorem q661 : (Jvm.Cond.selects "FlockHuts$Field" ({ cls := "FlockHuts$Field", name := "flock", desc := "(I)LFlockHuts$Field$Flock;" } : Jvm.MethodName) ({ cls := "FlockHuts$Field", name := "flock", desc := "(I)LFlockHuts$Field$Flock;" } : Jvm.MethodName)) ∈ lw_all := lw_g (lw_at lw_m3 105 rfl) rfl
theorem q662 : (Jvm.Cond.code ({ cls := "FlockHuts$Field", name := "flock", desc := "(I)LFlockHuts$Field$Flock;" } : Jvm.MethodName) prog_2_method_3_code (2 : Nat) (Option.some (Jvm.ClassFile.FieldType.object "FlockHuts$Field$Flock"))) ∈ lw_all := lw_g (lw_at lw_m3 106 rfl) rfl
theorem q663 : (Jvm.Cond.classLink "FlockHuts$Field" (74 : Nat) "FlockHuts$Field$Flock") ∈ lw_all := lw_g (lw_at lw_m3 107 rfl) rfl
theorem q665 : (Jvm.Cond.methodLink "FlockHuts$Field" (76 : Nat) ({ cls := "FlockHuts$Field$Flock", name := "<init>", desc := "(LFlockHuts$Field;I)V" } : Jvm.MethodName)) ∈ lw_all := lw_g (lw_at lw_m3 109 rfl) rfl
theorem q678 : (Jvm.Cond.methodLink "FlockHuts$Field" (179 : Nat) ({ cls := "FlockHuts$Field$Flock", name := "isEmpty", desc := "()Z" } : Jvm.MethodName)) ∈ lw_all := lw_g (lw_at lw_m3 122 rfl) rfl
theorem q700 : (Jvm.Cond.methodLink "FlockHuts$Field" (182 : Nat) ({ cls := "FlockHuts$Field$Flock", name := "middle", desc := "()LFlockHuts$Placed;" } : Jvm.MethodName)) ∈ lw_all := lw_g (lw_at lw_m3 144 rfl) rfl
theorem q727 : (Jvm.Cond.methodLink "FlockHuts$Field" (169 : Nat) ({ cls := "FlockHuts$Hut", name := "go", desc := "(LFlockHuts$Placed;)V" } : Jvm.MethodName)) ∈ lw_all := lw_g (lw_at lw_m3 171 rfl) rfl
theorem q728 : (Jvm.Cond.methodLink "FlockHuts$Field" (186 : Nat) ({ cls := "FlockHuts$Field", name := "lost", desc := "()LFlockHuts$Sheep;" } : Jvm.MethodName)) ∈ lw_all := lw_g (lw_at lw_m3 172 rfl) rfl
theorem q729 : (Jvm.Cond.privateMethod ({ cls := "FlockHuts$Field", name := "lost", desc := "()LFlockHuts$Sheep;" } : Jvm.MethodName)) ∈ lw_tbl := lw_at lw_m3 173 rfl
theorem q730 : (Jvm.Cond.instanceMethod ({ cls := "FlockHuts$Field", name := "lost", desc := "()LFlockHuts$Sheep;" } : Jvm.MethodName)) ∈ lw_all := lw_g (lw_at lw_m3 174 rfl) rfl
theorem q731 : (Jvm.Cond.code ({ cls := "FlockHuts$Field", name := "lost", desc := "()LFlockHuts$Sheep;" } : Jvm.MethodName) prog_2_method_21_code (5 : Nat) (Option.some (Jvm.ClassFile.FieldType.object "FlockHuts$Sheep"))) ∈ lw_all := lw_g (lw_at lw_m3 175 rfl) rfl
theorem q732 : (Jvm.Cond.methodLink "FlockHuts$Field" (114 : Nat) ({ cls := "FlockHuts$Field", name := "distance", desc := "(LFlockHuts$Sheep;)I" } : Jvm.MethodName)) ∈ lw_all := lw_g (lw_at lw_m3 176 rfl) rfl
theorem q733 : (Jvm.Cond.instanceMethod ({ cls := "FlockHuts$Field", name := "distance", desc := "(LFlockHuts$Sheep;)I" } : Jvm.MethodName)) ∈ lw_all := lw_g (lw_at lw_m3 177 rfl) rfl
theorem q734 : (Jvm.Cond.selects "FlockHuts$Field" ({ cls := "FlockHuts$Field", name := "distance", desc := "(LFlockHuts$Sheep;)I" } : Jvm.MethodName) ({ cls := "FlockHuts$Field", name := "distance", desc := "(LFlockHuts$Sheep;)I" } : Jvm.MethodName)) ∈ lw_all := lw_g (lw_at lw_m3 178 rfl) rfl
theorem q735 : (Jvm.Cond.code ({ cls := "FlockHuts$Field", name := "distance", desc := "(LFlockHuts$Sheep;)I" } : Jvm.MethodName) prog_2_method_9_code (2 : Nat) (Option.some Jvm.ClassFile.FieldType.int)) ∈ lw_all := lw_g (lw_at lw_m3 179 rfl) rfl
theorem q748 : (Jvm.Cond.instanceMethod ({ cls := "FlockHuts$Field", name := "roundsToStill", desc := "()I" } : Jvm.MethodName)) ∈ lw_all := lw_g (lw_at lw_m3 192 rfl) rfl
theorem q749 : (Jvm.Cond.selects "FlockHuts$Field" ({ cls := "FlockHuts$Field", name := "roundsToStill", desc := "()I" } : Jvm.MethodName) ({ cls := "FlockHuts$Field", name := "roundsToStill", desc := "()I" } : Jvm.MethodName)) ∈ lw_all := lw_g (lw_at lw_m3 193 rfl) rfl
theorem q750 : (Jvm.Cond.code ({ cls := "FlockHuts$Field", name := "roundsToStill", desc := "()I" } : Jvm.MethodName) prog_2_method_27_code (4 : Nat) (Option.some Jvm.ClassFile.FieldType.int)) ∈ lw_all := lw_g (lw_at lw_m3 194 rfl) rfl
theorem q751 : (Jvm.Cond.methodLink "FlockHuts$Field" (201 : Nat) ({ cls := "FlockHuts$Field", name := "isStill", desc := "()Z" } : Jvm.MethodName)) ∈ lw_all := lw_g (lw_at lw_m3 195 rfl) rfl
theorem q757 : (Jvm.Cond.instanceMethod ({ cls := "FlockHuts$Field", name := "spreadAgain", desc := "()I" } : Jvm.MethodName)) ∈ lw_all := lw_g (lw_at lw_m3 201 rfl) rfl
theorem q758 : (Jvm.Cond.selects "FlockHuts$Field" ({ cls := "FlockHuts$Field", name := "spreadAgain", desc := "()I" } : Jvm.MethodName) ({ cls := "FlockHuts$Field", name := "spreadAgain", desc := "()I" } : Jvm.MethodName)) ∈ lw_all := lw_g (lw_at lw_m3 202 rfl) rfl
theorem q759 : (Jvm.Cond.code ({ cls := "FlockHuts$Field", name := "spreadAgain", desc := "()I" } : Jvm.MethodName) prog_2_method_29_code (6 : Nat) (Option.some Jvm.ClassFile.FieldType.int)) ∈ lw_all := lw_g (lw_at lw_m3 203 rfl) rfl
theorem q761 : (Jvm.Cond.instanceMethod ({ cls := "FlockHuts$Field", name := "spread", desc := "()I" } : Jvm.MethodName)) ∈ lw_all := lw_g (lw_at lw_m3 205 rfl) rfl
theorem q762 : (Jvm.Cond.selects "FlockHuts$Field" ({ cls := "FlockHuts$Field", name := "spread", desc := "()I" } : Jvm.MethodName) ({ cls := "FlockHuts$Field", name := "spread", desc := "()I" } : Jvm.MethodName)) ∈ lw_all := lw_g (lw_at lw_m3 206 rfl) rfl
theorem q763 : (Jvm.Cond.code ({ cls := "FlockHuts$Field", name := "spread", desc := "()I" } : Jvm.MethodName) prog_2_method_28_code (3 : Nat) (Option.some Jvm.ClassFile.FieldType.int)) ∈ lw_all := lw_g (lw_at lw_m3 207 rfl) rfl
theorem q764 : (Jvm.Cond.methodLink "FlockHuts$Field" (204 : Nat) ({ cls := "FlockHuts$Field$Flock", name := "spread", desc := "()I" } : Jvm.MethodName)) ∈ lw_all := lw_g (lw_at lw_m3 208 rfl) rfl
theorem q775 : (Jvm.Cond.instanceMethod ({ cls := "FlockHuts$Field", name := "strays", desc := "()Ljava/util/ArrayList;" } : Jvm.MethodName)) ∈ lw_all := lw_g (lw_at lw_m3 219 rfl) rfl
theorem q776 : (Jvm.Cond.selects "FlockHuts$Field" ({ cls := "FlockHuts$Field", name := "strays", desc := "()Ljava/util/ArrayList;" } : Jvm.MethodName) ({ cls := "FlockHuts$Field", name := "strays", desc := "()Ljava/util/ArrayList;" } : Jvm.MethodName)) ∈ lw_all := lw_g (lw_at lw_m3 220 rfl) rfl
theorem q777 : (Jvm.Cond.code ({ cls := "FlockHuts$Field", name := "strays", desc := "()Ljava/util/ArrayList;" } : Jvm.MethodName) prog_2_method_32_code (5 : Nat) (Option.some (Jvm.ClassFile.FieldType.object "java/util/ArrayList"))) ∈ lw_all := lw_g (lw_at lw_m3 221 rfl) rfl
theorem q778 : (Jvm.Cond.methodLink "FlockHuts$Field" (219 : Nat) ({ cls := "FlockHuts$Field", name := "isStray", desc := "(LFlockHuts$Sheep;)Z" } : Jvm.MethodName)) ∈ lw_all := lw_g (lw_at lw_m3 222 rfl) rfl
theorem q779 : (Jvm.Cond.instanceMethod ({ cls := "FlockHuts$Field", name := "isStray", desc := "(LFlockHuts$Sheep;)Z" } : Jvm.MethodName)) ∈ lw_all := lw_g (lw_at lw_m3 223 rfl) rfl
theorem q780 : (Jvm.Cond.selects "FlockHuts$Field" ({ cls := "FlockHuts$Field", name := "isStray", desc := "(LFlockHuts$Sheep;)Z" } : Jvm.MethodName) ({ cls := "FlockHuts$Field", name := "isStray", desc := "(LFlockHuts$Sheep;)Z" } : Jvm.MethodName)) ∈ lw_all := lw_g (lw_at lw_m3 224 rfl) rfl
theorem q781 : (Jvm.Cond.code ({ cls := "FlockHuts$Field", name := "isStray", desc := "(LFlockHuts$Sheep;)Z" } : Jvm.MethodName) prog_2_method_10_code (3 : Nat) (Option.some Jvm.ClassFile.FieldType.boolean)) ∈ lw_all := lw_g (lw_at lw_m3 225 rfl) rfl
theorem q787 : (Jvm.Cond.instanceMethod ({ cls := "FlockHuts$Field", name := "isRight", desc := "()Z" } : Jvm.MethodName)) ∈ lw_all := lw_g (lw_at lw_m3 231 rfl) rfl
theorem q788 : (Jvm.Cond.selects "FlockHuts$Field" ({ cls := "FlockHuts$Field", name := "isRight", desc := "()Z" } : Jvm.MethodName) ({ cls := "FlockHuts$Field", name := "isRight", desc := "()Z" } : Jvm.MethodName)) ∈ lw_all := lw_g (lw_at lw_m3 232 rfl) rfl
theorem q789 : (Jvm.Cond.code ({ cls := "FlockHuts$Field", name := "isRight", desc := "()Z" } : Jvm.MethodName) prog_2_method_37_code (5 : Nat) (Option.some Jvm.ClassFile.FieldType.boolean)) ∈ lw_all := lw_g (lw_at lw_m3 233 rfl) rfl
theorem q790 : (Jvm.Cond.methodLink "FlockHuts$Field" (218 : Nat) ({ cls := "FlockHuts$Field", name := "spread", desc := "()I" } : Jvm.MethodName)) ∈ lw_all := lw_g (lw_at lw_m3 234 rfl) rfl
theorem q791 : (Jvm.Cond.methodLink "FlockHuts$Field" (242 : Nat) ({ cls := "FlockHuts$Field", name := "spreadAgain", desc := "()I" } : Jvm.MethodName)) ∈ lw_all := lw_g (lw_at lw_m3 235 rfl) rfl
theorem q792 : (Jvm.Cond.constantLong "FlockHuts$Field" (226 : Nat) (-1 : Int64)) ∈ lw_all := lw_g (lw_at lw_m3 236 rfl) rfl
theorem q793 : (Jvm.Cond.methodLinkNest "FlockHuts$Field" (83 : Nat) ({ cls := "FlockHuts", name := "inRange", desc := "(JJJ)Z" } : Jvm.MethodName) "FlockHuts") ∈ lw_tbl := lw_at lw_m3 237 rfl
theorem q796 : (Jvm.Cond.methodLink "FlockHuts$Field" (159 : Nat) ({ cls := "FlockHuts$Field$Flock", name := "count", desc := "()I" } : Jvm.MethodName)) ∈ lw_all := lw_g (lw_at lw_m4 0 rfl) rfl
theorem q800 : (Jvm.Cond.methodLink "FlockHuts$Field" (228 : Nat) ({ cls := "FlockHuts$Field", name := "strays", desc := "()Ljava/util/ArrayList;" } : Jvm.MethodName)) ∈ lw_all := lw_g (lw_at lw_m4 4 rfl) rfl
theorem q806 : (Jvm.Cond.instanceMethod ({ cls := "FlockHuts$Field", name := "told", desc := "()Ljava/lang/String;" } : Jvm.MethodName)) ∈ lw_all := lw_g (lw_at lw_m4 10 rfl) rfl
theorem q807 : (Jvm.Cond.selects "FlockHuts$Field" ({ cls := "FlockHuts$Field", name := "told", desc := "()Ljava/lang/String;" } : Jvm.MethodName) ({ cls := "FlockHuts$Field", name := "told", desc := "()Ljava/lang/String;" } : Jvm.MethodName)) ∈ lw_all := lw_g (lw_at lw_m4 11 rfl) rfl
theorem q808 : (Jvm.Cond.code ({ cls := "FlockHuts$Field", name := "told", desc := "()Ljava/lang/String;" } : Jvm.MethodName) prog_2_method_39_code (5 : Nat) (Option.some (Jvm.ClassFile.FieldType.object "java/lang/String"))) ∈ lw_all := lw_g (lw_at lw_m4 12 rfl) rfl
theorem q809 : (Jvm.Cond.classLink "FlockHuts$Field" (245 : Nat) "java/lang/StringBuilder") ∈ lw_all := lw_g (lw_at lw_m4 13 rfl) rfl
theorem q810 : (Jvm.Cond.methodLink "FlockHuts$Field" (247 : Nat) ({ cls := "java/lang/StringBuilder", name := "<init>", desc := "()V" } : Jvm.MethodName)) ∈ lw_all := lw_g (lw_at lw_m4 14 rfl) rfl
theorem q811 : (Jvm.Cond.stringRef "FlockHuts$Field" (260 : Nat) "-") ∈ lw_tbl := lw_at lw_m4 15 rfl
theorem q812 : (Jvm.Cond.stringRef "FlockHuts$Field" (262 : Nat) "") ∈ lw_tbl := lw_at lw_m4 16 rfl
theorem q813 : (Jvm.Cond.methodLink "FlockHuts$Field" (264 : Nat) ({ cls := "java/lang/StringBuilder", name := "append", desc := "(Ljava/lang/String;)Ljava/lang/StringBuilder;" } : Jvm.MethodName)) ∈ lw_all := lw_g (lw_at lw_m4 17 rfl) rfl
theorem q918 : (Jvm.Cond.methodLink "FlockHuts$Field" (252 : Nat) ({ cls := "java/lang/StringBuilder", name := "append", desc := "(I)Ljava/lang/StringBuilder;" } : Jvm.MethodName)) ∈ lw_all := lw_g (lw_at lw_m4 122 rfl) rfl
theorem q943 : (Jvm.Cond.methodLink "FlockHuts$Field" (256 : Nat) ({ cls := "java/lang/StringBuilder", name := "toString", desc := "()Ljava/lang/String;" } : Jvm.MethodName)) ∈ lw_all := lw_g (lw_at lw_m4 147 rfl) rfl
theorem q1151 : (Jvm.Cond.instanceMethod ({ cls := "FlockHuts$Field", name := "come", desc := "(III)I" } : Jvm.MethodName)) ∈ lw_all := lw_g (lw_at lw_m5 115 rfl) rfl
theorem q1152 : (Jvm.Cond.selects "FlockHuts$Field" ({ cls := "FlockHuts$Field", name := "come", desc := "(III)I" } : Jvm.MethodName) ({ cls := "FlockHuts$Field", name := "come", desc := "(III)I" } : Jvm.MethodName)) ∈ lw_all := lw_g (lw_at lw_m5 116 rfl) rfl
theorem q1153 : (Jvm.Cond.code ({ cls := "FlockHuts$Field", name := "come", desc := "(III)I" } : Jvm.MethodName) prog_2_method_12_code (6 : Nat) (Option.some Jvm.ClassFile.FieldType.int)) ∈ lw_all := lw_g (lw_at lw_m5 117 rfl) rfl
theorem q1154 : (Jvm.Cond.methodLinkNest "FlockHuts$Field" (121 : Nat) ({ cls := "FlockHuts", name := "checkPlaces", desc := "([I)V" } : Jvm.MethodName) "FlockHuts") ∈ lw_tbl := lw_at lw_m5 118 rfl
theorem q1167 : (Jvm.Cond.constantLong "FlockHuts$Field" (125 : Nat) (9 : Int64)) ∈ lw_all := lw_g (lw_at lw_m5 131 rfl) rfl
theorem q1168 : (Jvm.Cond.methodLinkNest "FlockHuts$Field" (127 : Nat) ({ cls := "FlockHuts", name := "checkArgument", desc := "(Z)V" } : Jvm.MethodName) "FlockHuts") ∈ lw_tbl := lw_at lw_m5 132 rfl
theorem q1169 : (Jvm.Cond.methodLink "FlockHuts$Field" (130 : Nat) ({ cls := "FlockHuts$Refused", name := "check", desc := "(ZII)V" } : Jvm.MethodName)) ∈ lw_all := lw_g (lw_at lw_m5 133 rfl) rfl
theorem q1200 : (Jvm.Cond.methodLink "FlockHuts$Field" (136 : Nat) ({ cls := "FlockHuts$Sheep", name := "<init>", desc := "(III)V" } : Jvm.MethodName)) ∈ lw_all := lw_g (lw_at lw_m5 164 rfl) rfl
theorem q1202 : (Jvm.Cond.instanceMethod ({ cls := "FlockHuts$Field", name := "set", desc := "(II)I" } : Jvm.MethodName)) ∈ lw_all := lw_g (lw_at lw_m5 166 rfl) rfl
theorem q1203 : (Jvm.Cond.selects "FlockHuts$Field" ({ cls := "FlockHuts$Field", name := "set", desc := "(II)I" } : Jvm.MethodName) ({ cls := "FlockHuts$Field", name := "set", desc := "(II)I" } : Jvm.MethodName)) ∈ lw_all := lw_g (lw_at lw_m5 167 rfl) rfl
theorem q1204 : (Jvm.Cond.code ({ cls := "FlockHuts$Field", name := "set", desc := "(II)I" } : Jvm.MethodName) prog_2_method_14_code (5 : Nat) (Option.some Jvm.ClassFile.FieldType.int)) ∈ lw_all := lw_g (lw_at lw_m5 168 rfl) rfl
theorem q1205 : (Jvm.Cond.methodLink "FlockHuts$Field" (142 : Nat) ({ cls := "FlockHuts$Placed", name := "at", desc := "(II)LFlockHuts$Placed;" } : Jvm.MethodName)) ∈ lw_all := lw_g (lw_at lw_m5 169 rfl) rfl
theorem q1206 : (Jvm.Cond.methodLink "FlockHuts$Field" (146 : Nat) ({ cls := "FlockHuts$Field", name := "checkFree", desc := "(LFlockHuts$Placed;)V" } : Jvm.MethodName)) ∈ lw_all := lw_g (lw_at lw_m5 170 rfl) rfl
theorem q1207 : (Jvm.Cond.privateMethod ({ cls := "FlockHuts$Field", name := "checkFree", desc := "(LFlockHuts$Placed;)V" } : Jvm.MethodName)) ∈ lw_tbl := lw_at lw_m5 171 rfl
theorem q1208 : (Jvm.Cond.instanceMethod ({ cls := "FlockHuts$Field", name := "checkFree", desc := "(LFlockHuts$Placed;)V" } : Jvm.MethodName)) ∈ lw_all := lw_g (lw_at lw_m5 172 rfl) rfl
theorem q1209 : (Jvm.Cond.code ({ cls := "FlockHuts$Field", name := "checkFree", desc := "(LFlockHuts$Placed;)V" } : Jvm.MethodName) prog_2_method_13_code (3 : Nat) (Option.none : Option Jvm.ClassFile.FieldType)) ∈ lw_all := lw_g (lw_at lw_m5 173 rfl) rfl
theorem q1210 : (Jvm.Cond.methodLink "FlockHuts$Field" (139 : Nat) ({ cls := "FlockHuts$Field", name := "hutAt", desc := "(LFlockHuts$Placed;)I" } : Jvm.MethodName)) ∈ lw_all := lw_g (lw_at lw_m5 174 rfl) rfl
theorem q1211 : (Jvm.Cond.privateMethod ({ cls := "FlockHuts$Field", name := "hutAt", desc := "(LFlockHuts$Placed;)I" } : Jvm.MethodName)) ∈ lw_tbl := lw_at lw_m5 175 rfl
theorem q1212 : (Jvm.Cond.instanceMethod ({ cls := "FlockHuts$Field", name := "hutAt", desc := "(LFlockHuts$Placed;)I" } : Jvm.MethodName)) ∈ lw_all := lw_g (lw_at lw_m5 176 rfl) rfl
theorem q1213 : (Jvm.Cond.code ({ cls := "FlockHuts$Field", name := "hutAt", desc := "(LFlockHuts$Placed;)I" } : Jvm.MethodName) prog_2_method_11_code (3 : Nat) (Option.some Jvm.ClassFile.FieldType.int)) ∈ lw_all := lw_g (lw_at lw_m5 177 rfl) rfl
theorem q1215 : (Jvm.Cond.instanceMethod ({ cls := "FlockHuts$Field", name := "leave", desc := "(I)I" } : Jvm.MethodName)) ∈ lw_all := lw_g (lw_at lw_m5 179 rfl) rfl
theorem q1216 : (Jvm.Cond.selects "FlockHuts$Field" ({ cls := "FlockHuts$Field", name := "leave", desc := "(I)I" } : Jvm.MethodName) ({ cls := "FlockHuts$Field", name := "leave", desc := "(I)I" } : Jvm.MethodName)) ∈ lw_all := lw_g (lw_at lw_m5 180 rfl) rfl
theorem q1217 : (Jvm.Cond.code ({ cls := "FlockHuts$Field", name := "leave", desc := "(I)I" } : Jvm.MethodName) prog_2_method_15_code (4 : Nat) (Option.some Jvm.ClassFile.FieldType.int)) ∈ lw_all := lw_g (lw_at lw_m5 181 rfl) rfl
theorem q1218 : (Jvm.Cond.methodLink "FlockHuts$Field" (149 : Nat) ({ cls := "FlockHuts$Field", name := "sheep", desc := "(I)LFlockHuts$Sheep;" } : Jvm.MethodName)) ∈ lw_all := lw_g (lw_at lw_m5 182 rfl) rfl
theorem q1219 : (Jvm.Cond.instanceMethod ({ cls := "FlockHuts$Field", name := "sheep", desc := "(I)LFlockHuts$Sheep;" } : Jvm.MethodName)) ∈ lw_all := lw_g (lw_at lw_m5 183 rfl) rfl
theorem q1220 : (Jvm.Cond.selects "FlockHuts$Field" ({ cls := "FlockHuts$Field", name := "sheep", desc := "(I)LFlockHuts$Sheep;" } : Jvm.MethodName) ({ cls := "FlockHuts$Field", name := "sheep", desc := "(I)LFlockHuts$Sheep;" } : Jvm.MethodName)) ∈ lw_all := lw_g (lw_at lw_m5 184 rfl) rfl
theorem q1221 : (Jvm.Cond.code ({ cls := "FlockHuts$Field", name := "sheep", desc := "(I)LFlockHuts$Sheep;" } : Jvm.MethodName) prog_2_method_6_code (2 : Nat) (Option.some (Jvm.ClassFile.FieldType.object "FlockHuts$Sheep"))) ∈ lw_all := lw_g (lw_at lw_m5 185 rfl) rfl
theorem q1222 : (Jvm.Cond.methodLinkNest "FlockHuts$Field" (87 : Nat) ({ cls := "FlockHuts", name := "checkIndex", desc := "(Z)V" } : Jvm.MethodName) "FlockHuts") ∈ lw_tbl := lw_at lw_m5 186 rfl
theorem q1240 : (Jvm.Cond.methodLink "FlockHuts$Field" (152 : Nat) ({ cls := "java/util/ArrayList", name := "remove", desc := "(Ljava/lang/Object;)Z" } : Jvm.MethodName)) ∈ lw_all := lw_g (lw_at lw_m5 204 rfl) rfl
theorem q1249 : (Jvm.Cond.selects "FlockHuts$Field" ({ cls := "java/lang/Object", name := "equals", desc := "(Ljava/lang/Object;)Z" } : Jvm.MethodName) ({ cls := "java/lang/Object", name := "equals", desc := "(Ljava/lang/Object;)Z" } : Jvm.MethodName)) ∈ lw_all := lw_g (lw_at lw_m5 213 rfl) rfl
theorem q1276 : (Jvm.Cond.instanceMethod ({ cls := "FlockHuts$Field", name := "strike", desc := "(I)I" } : Jvm.MethodName)) ∈ lw_all := lw_g (lw_at lw_m6 0 rfl) rfl
theorem q1277 : (Jvm.Cond.selects "FlockHuts$Field" ({ cls := "FlockHuts$Field", name := "strike", desc := "(I)I" } : Jvm.MethodName) ({ cls := "FlockHuts$Field", name := "strike", desc := "(I)I" } : Jvm.MethodName)) ∈ lw_all := lw_g (lw_at lw_m6 1 rfl) rfl
theorem q1278 : (Jvm.Cond.code ({ cls := "FlockHuts$Field", name := "strike", desc := "(I)I" } : Jvm.MethodName) prog_2_method_17_code (5 : Nat) (Option.some Jvm.ClassFile.FieldType.int)) ∈ lw_all := lw_g (lw_at lw_m6 2 rfl) rfl
theorem q1279 : (Jvm.Cond.methodLink "FlockHuts$Field" (91 : Nat) ({ cls := "FlockHuts$Field", name := "checkHut", desc := "(I)V" } : Jvm.MethodName)) ∈ lw_all := lw_g (lw_at lw_m6 3 rfl) rfl
theorem q1280 : (Jvm.Cond.instanceMethod ({ cls := "FlockHuts$Field", name := "checkHut", desc := "(I)V" } : Jvm.MethodName)) ∈ lw_all := lw_g (lw_at lw_m6 4 rfl) rfl
theorem q1281 : (Jvm.Cond.selects "FlockHuts$Field" ({ cls := "FlockHuts$Field", name := "checkHut", desc := "(I)V" } : Jvm.MethodName) ({ cls := "FlockHuts$Field", name := "checkHut", desc := "(I)V" } : Jvm.MethodName)) ∈ lw_all := lw_g (lw_at lw_m6 5 rfl) rfl
theorem q1282 : (Jvm.Cond.code ({ cls := "FlockHuts$Field", name := "checkHut", desc := "(I)V" } : Jvm.MethodName) prog_2_method_4_code (2 : Nat) (Option.none : Option Jvm.ClassFile.FieldType)) ∈ lw_all := lw_g (lw_at lw_m6 6 rfl) rfl
theorem q1283 : (Jvm.Cond.methodLink "FlockHuts$Field" (162 : Nat) ({ cls := "FlockHuts$Field", name := "without", desc := "(II)I" } : Jvm.MethodName)) ∈ lw_all := lw_g (lw_at lw_m6 7 rfl) rfl
theorem q1284 : (Jvm.Cond.static ({ cls := "FlockHuts$Field", name := "without", desc := "(II)I" } : Jvm.MethodName)) ∈ lw_all := lw_g (lw_at lw_m6 8 rfl) rfl
theorem q1285 : (Jvm.Cond.code ({ cls := "FlockHuts$Field", name := "without", desc := "(II)I" } : Jvm.MethodName) prog_2_method_16_code (2 : Nat) (Option.some Jvm.ClassFile.FieldType.int)) ∈ lw_all := lw_g (lw_at lw_m6 9 rfl) rfl
theorem q1286 : (Jvm.Cond.methodLink "FlockHuts$Field" (166 : Nat) ({ cls := "java/util/ArrayList", name := "remove", desc := "(I)Ljava/lang/Object;" } : Jvm.MethodName)) ∈ lw_all := lw_g (lw_at lw_m6 10 rfl) rfl
theorem q1291 : (Jvm.Cond.instanceMethod ({ cls := "FlockHuts$Field", name := "move", desc := "(III)I" } : Jvm.MethodName)) ∈ lw_all := lw_g (lw_at lw_m6 15 rfl) rfl
theorem q1292 : (Jvm.Cond.selects "FlockHuts$Field" ({ cls := "FlockHuts$Field", name := "move", desc := "(III)I" } : Jvm.MethodName) ({ cls := "FlockHuts$Field", name := "move", desc := "(III)I" } : Jvm.MethodName)) ∈ lw_all := lw_g (lw_at lw_m6 16 rfl) rfl
theorem q1293 : (Jvm.Cond.code ({ cls := "FlockHuts$Field", name := "move", desc := "(III)I" } : Jvm.MethodName) prog_2_method_18_code (7 : Nat) (Option.some Jvm.ClassFile.FieldType.int)) ∈ lw_all := lw_g (lw_at lw_m6 17 rfl) rfl
theorem q1295 : (Jvm.Cond.instanceMethod ({ cls := "FlockHuts$Field", name := "weigh", desc := "(II)I" } : Jvm.MethodName)) ∈ lw_all := lw_g (lw_at lw_m6 19 rfl) rfl
theorem q1296 : (Jvm.Cond.selects "FlockHuts$Field" ({ cls := "FlockHuts$Field", name := "weigh", desc := "(II)I" } : Jvm.MethodName) ({ cls := "FlockHuts$Field", name := "weigh", desc := "(II)I" } : Jvm.MethodName)) ∈ lw_all := lw_g (lw_at lw_m6 20 rfl) rfl
theorem q1297 : (Jvm.Cond.code ({ cls := "FlockHuts$Field", name := "weigh", desc := "(II)I" } : Jvm.MethodName) prog_2_method_19_code (5 : Nat) (Option.some Jvm.ClassFile.FieldType.int)) ∈ lw_all := lw_g (lw_at lw_m6 21 rfl) rfl
theorem q1299 : (Jvm.Cond.instanceMethod ({ cls := "FlockHuts$Field", name := "round", desc := "()I" } : Jvm.MethodName)) ∈ lw_all := lw_g (lw_at lw_m6 23 rfl) rfl
theorem q1300 : (Jvm.Cond.selects "FlockHuts$Field" ({ cls := "FlockHuts$Field", name := "round", desc := "()I" } : Jvm.MethodName) ({ cls := "FlockHuts$Field", name := "round", desc := "()I" } : Jvm.MethodName)) ∈ lw_all := lw_g (lw_at lw_m6 24 rfl) rfl
theorem q1301 : (Jvm.Cond.code ({ cls := "FlockHuts$Field", name := "round", desc := "()I" } : Jvm.MethodName) prog_2_method_25_code (1 : Nat) (Option.some Jvm.ClassFile.FieldType.int)) ∈ lw_all := lw_g (lw_at lw_m6 25 rfl) rfl
theorem q1302 : (Jvm.Cond.methodLink "FlockHuts$Field" (196 : Nat) ({ cls := "FlockHuts$Field", name := "checkRounds", desc := "()V" } : Jvm.MethodName)) ∈ lw_all := lw_g (lw_at lw_m6 26 rfl) rfl
theorem q1303 : (Jvm.Cond.privateMethod ({ cls := "FlockHuts$Field", name := "checkRounds", desc := "()V" } : Jvm.MethodName)) ∈ lw_tbl := lw_at lw_m6 27 rfl
theorem q1304 : (Jvm.Cond.instanceMethod ({ cls := "FlockHuts$Field", name := "checkRounds", desc := "()V" } : Jvm.MethodName)) ∈ lw_all := lw_g (lw_at lw_m6 28 rfl) rfl
theorem q1305 : (Jvm.Cond.code ({ cls := "FlockHuts$Field", name := "checkRounds", desc := "()V" } : Jvm.MethodName) prog_2_method_24_code (1 : Nat) (Option.none : Option Jvm.ClassFile.FieldType)) ∈ lw_all := lw_g (lw_at lw_m6 29 rfl) rfl
theorem q1307 : (Jvm.Cond.instanceMethod ({ cls := "FlockHuts$Field", name := "settle", desc := "(I)I" } : Jvm.MethodName)) ∈ lw_all := lw_g (lw_at lw_m6 31 rfl) rfl
theorem q1308 : (Jvm.Cond.selects "FlockHuts$Field" ({ cls := "FlockHuts$Field", name := "settle", desc := "(I)I" } : Jvm.MethodName) ({ cls := "FlockHuts$Field", name := "settle", desc := "(I)I" } : Jvm.MethodName)) ∈ lw_all := lw_g (lw_at lw_m6 32 rfl) rfl
theorem q1309 : (Jvm.Cond.code ({ cls := "FlockHuts$Field", name := "settle", desc := "(I)I" } : Jvm.MethodName) prog_2_method_26_code (4 : Nat) (Option.some Jvm.ClassFile.FieldType.int)) ∈ lw_all := lw_g (lw_at lw_m6 33 rfl) rfl
theorem q1310 : (Jvm.Cond.constantLong "FlockHuts$Field" (199 : Nat) (30 : Int64)) ∈ lw_all := lw_g (lw_at lw_m6 34 rfl) rfl
theorem q1312 : (Jvm.Cond.instanceMethod ({ cls := "FlockHuts$Field", name := "dog", desc := "(II)I" } : Jvm.MethodName)) ∈ lw_all := lw_g (lw_at lw_m6 36 rfl) rfl
theorem q1313 : (Jvm.Cond.selects "FlockHuts$Field" ({ cls := "FlockHuts$Field", name := "dog", desc := "(II)I" } : Jvm.MethodName) ({ cls := "FlockHuts$Field", name := "dog", desc := "(II)I" } : Jvm.MethodName)) ∈ lw_all := lw_g (lw_at lw_m6 37 rfl) rfl
theorem q1314 : (Jvm.Cond.code ({ cls := "FlockHuts$Field", name := "dog", desc := "(II)I" } : Jvm.MethodName) prog_2_method_33_code (4 : Nat) (Option.some Jvm.ClassFile.FieldType.int)) ∈ lw_all := lw_g (lw_at lw_m6 38 rfl) rfl
theorem q1315 : (Jvm.Cond.methodLink "FlockHuts$Field" (223 : Nat) ({ cls := "FlockHuts$Field", name := "checkDog", desc := "(I)V" } : Jvm.MethodName)) ∈ lw_all := lw_g (lw_at lw_m6 39 rfl) rfl
theorem q1316 : (Jvm.Cond.instanceMethod ({ cls := "FlockHuts$Field", name := "checkDog", desc := "(I)V" } : Jvm.MethodName)) ∈ lw_all := lw_g (lw_at lw_m6 40 rfl) rfl
theorem q1317 : (Jvm.Cond.selects "FlockHuts$Field" ({ cls := "FlockHuts$Field", name := "checkDog", desc := "(I)V" } : Jvm.MethodName) ({ cls := "FlockHuts$Field", name := "checkDog", desc := "(I)V" } : Jvm.MethodName)) ∈ lw_all := lw_g (lw_at lw_m6 41 rfl) rfl
theorem q1318 : (Jvm.Cond.code ({ cls := "FlockHuts$Field", name := "checkDog", desc := "(I)V" } : Jvm.MethodName) prog_2_method_7_code (2 : Nat) (Option.none : Option Jvm.ClassFile.FieldType)) ∈ lw_all := lw_g (lw_at lw_m6 42 rfl) rfl
theorem q1319 : (Jvm.Cond.constantLong "FlockHuts$Field" (99 : Nat) (2 : Int64)) ∈ lw_all := lw_g (lw_at lw_m6 43 rfl) rfl
theorem q1321 : (Jvm.Cond.instanceMethod ({ cls := "FlockHuts$Field", name := "fetch", desc := "(I)I" } : Jvm.MethodName)) ∈ lw_all := lw_g (lw_at lw_m6 45 rfl) rfl
theorem q1322 : (Jvm.Cond.selects "FlockHuts$Field" ({ cls := "FlockHuts$Field", name := "fetch", desc := "(I)I" } : Jvm.MethodName) ({ cls := "FlockHuts$Field", name := "fetch", desc := "(I)I" } : Jvm.MethodName)) ∈ lw_all := lw_g (lw_at lw_m6 46 rfl) rfl
theorem q1323 : (Jvm.Cond.code ({ cls := "FlockHuts$Field", name := "fetch", desc := "(I)I" } : Jvm.MethodName) prog_2_method_34_code (6 : Nat) (Option.some Jvm.ClassFile.FieldType.int)) ∈ lw_all := lw_g (lw_at lw_m6 47 rfl) rfl
theorem q1324 : (Jvm.Cond.methodLink "FlockHuts$Field" (232 : Nat) ({ cls := "java/util/ArrayList", name := "indexOf", desc := "(Ljava/lang/Object;)I" } : Jvm.MethodName)) ∈ lw_all := lw_g (lw_at lw_m6 48 rfl) rfl
theorem q1525 : (Jvm.Cond.instanceMethod ({ cls := "FlockHuts$Field", name := "spreadAfter", desc := "(I)I" } : Jvm.MethodName)) ∈ lw_all := lw_g (lw_at lw_m7 9 rfl) rfl
theorem q1526 : (Jvm.Cond.selects "FlockHuts$Field" ({ cls := "FlockHuts$Field", name := "spreadAfter", desc := "(I)I" } : Jvm.MethodName) ({ cls := "FlockHuts$Field", name := "spreadAfter", desc := "(I)I" } : Jvm.MethodName)) ∈ lw_all := lw_g (lw_at lw_m7 10 rfl) rfl
theorem q1527 : (Jvm.Cond.code ({ cls := "FlockHuts$Field", name := "spreadAfter", desc := "(I)I" } : Jvm.MethodName) prog_2_method_30_code (5 : Nat) (Option.some Jvm.ClassFile.FieldType.int)) ∈ lw_all := lw_g (lw_at lw_m7 11 rfl) rfl
theorem q1528 : (Jvm.Cond.methodLinkNest "FlockHuts$Field" (215 : Nat) ({ cls := "FlockHuts", name := "checkElement", desc := "(Z)V" } : Jvm.MethodName) "FlockHuts") ∈ lw_tbl := lw_at lw_m7 12 rfl
theorem q1539 : (Jvm.Cond.instanceMethod ({ cls := "FlockHuts$Field", name := "spreadWith", desc := "(LFlockHuts$Placed;)I" } : Jvm.MethodName)) ∈ lw_all := lw_g (lw_at lw_m7 23 rfl) rfl
theorem q1540 : (Jvm.Cond.selects "FlockHuts$Field" ({ cls := "FlockHuts$Field", name := "spreadWith", desc := "(LFlockHuts$Placed;)I" } : Jvm.MethodName) ({ cls := "FlockHuts$Field", name := "spreadWith", desc := "(LFlockHuts$Placed;)I" } : Jvm.MethodName)) ∈ lw_all := lw_g (lw_at lw_m7 24 rfl) rfl
theorem q1541 : (Jvm.Cond.code ({ cls := "FlockHuts$Field", name := "spreadWith", desc := "(LFlockHuts$Placed;)I" } : Jvm.MethodName) prog_2_method_31_code (7 : Nat) (Option.some Jvm.ClassFile.FieldType.int)) ∈ lw_all := lw_g (lw_at lw_m7 25 rfl) rfl
theorem q1589 : (Jvm.Cond.instanceMethod ({ cls := "FlockHuts$Field", name := "checkHuts", desc := "(II)V" } : Jvm.MethodName)) ∈ lw_all := lw_g (lw_at lw_m7 73 rfl) rfl
theorem q1590 : (Jvm.Cond.selects "FlockHuts$Field" ({ cls := "FlockHuts$Field", name := "checkHuts", desc := "(II)V" } : Jvm.MethodName) ({ cls := "FlockHuts$Field", name := "checkHuts", desc := "(II)V" } : Jvm.MethodName)) ∈ lw_all := lw_g (lw_at lw_m7 74 rfl) rfl
theorem q1591 : (Jvm.Cond.code ({ cls := "FlockHuts$Field", name := "checkHuts", desc := "(II)V" } : Jvm.MethodName) prog_2_method_5_code (3 : Nat) (Option.none : Option Jvm.ClassFile.FieldType)) ∈ lw_all := lw_g (lw_at lw_m7 75 rfl) rfl
theorem q1601 : (Jvm.Cond.instanceMethod ({ cls := "FlockHuts$Field", name := "ranked", desc := "(I)I" } : Jvm.MethodName)) ∈ lw_all := lw_g (lw_at lw_m7 85 rfl) rfl
theorem q1602 : (Jvm.Cond.selects "FlockHuts$Field" ({ cls := "FlockHuts$Field", name := "ranked", desc := "(I)I" } : Jvm.MethodName) ({ cls := "FlockHuts$Field", name := "ranked", desc := "(I)I" } : Jvm.MethodName)) ∈ lw_all := lw_g (lw_at lw_m7 86 rfl) rfl
theorem q1603 : (Jvm.Cond.code ({ cls := "FlockHuts$Field", name := "ranked", desc := "(I)I" } : Jvm.MethodName) prog_2_method_36_code (5 : Nat) (Option.some Jvm.ClassFile.FieldType.int)) ∈ lw_all := lw_g (lw_at lw_m7 87 rfl) rfl
theorem q1604 : (Jvm.Cond.methodLink "FlockHuts$Field" (238 : Nat) ({ cls := "FlockHuts$Field", name := "isAhead", desc := "(II)Z" } : Jvm.MethodName)) ∈ lw_all := lw_g (lw_at lw_m7 88 rfl) rfl
theorem q1605 : (Jvm.Cond.privateMethod ({ cls := "FlockHuts$Field", name := "isAhead", desc := "(II)Z" } : Jvm.MethodName)) ∈ lw_tbl := lw_at lw_m7 89 rfl
theorem q1606 : (Jvm.Cond.instanceMethod ({ cls := "FlockHuts$Field", name := "isAhead", desc := "(II)Z" } : Jvm.MethodName)) ∈ lw_all := lw_g (lw_at lw_m7 90 rfl) rfl
theorem q1607 : (Jvm.Cond.code ({ cls := "FlockHuts$Field", name := "isAhead", desc := "(II)Z" } : Jvm.MethodName) prog_2_method_35_code (4 : Nat) (Option.some Jvm.ClassFile.FieldType.boolean)) ∈ lw_all := lw_g (lw_at lw_m7 91 rfl) rfl
theorem q1608 : (Jvm.Cond.methodLink "FlockHuts$Field" (236 : Nat) ({ cls := "FlockHuts$Field$Flock", name := "weight", desc := "()I" } : Jvm.MethodName)) ∈ lw_all := lw_g (lw_at lw_m7 92 rfl) rfl
theorem q1617 : (Jvm.Cond.instanceMethod ({ cls := "FlockHuts$Field", name := "told", desc := "(I)Ljava/lang/String;" } : Jvm.MethodName)) ∈ lw_all := lw_g (lw_at lw_m7 101 rfl) rfl
theorem q1618 : (Jvm.Cond.selects "FlockHuts$Field" ({ cls := "FlockHuts$Field", name := "told", desc := "(I)Ljava/lang/String;" } : Jvm.MethodName) ({ cls := "FlockHuts$Field", name := "told", desc := "(I)Ljava/lang/String;" } : Jvm.MethodName)) ∈ lw_all := lw_g (lw_at lw_m7 102 rfl) rfl
theorem q1619 : (Jvm.Cond.code ({ cls := "FlockHuts$Field", name := "told", desc := "(I)Ljava/lang/String;" } : Jvm.MethodName) prog_2_method_38_code (8 : Nat) (Option.some (Jvm.ClassFile.FieldType.object "java/lang/String"))) ∈ lw_all := lw_g (lw_at lw_m7 103 rfl) rfl
theorem q1620 : (Jvm.Cond.methodLink "FlockHuts$Field" (248 : Nat) ({ cls := "java/lang/StringBuilder", name := "append", desc := "(C)Ljava/lang/StringBuilder;" } : Jvm.MethodName)) ∈ lw_all := lw_g (lw_at lw_m7 104 rfl) rfl
theorem q1640 : (Jvm.Cond.methodLink "FlockHuts$Field" (255 : Nat) ({ cls := "FlockHuts$Field$Flock", name := "iterator", desc := "()Ljava/util/Iterator;" } : Jvm.MethodName)) ∈ lw_all := lw_g (lw_at lw_m7 124 rfl) rfl
theorem q2438 : (Jvm.Cond.castable "FlockHuts$Field" "java/lang/Object") ∈ lw_tbl := lw_at lw_m10 202 rfl
theorem in_X2 : ∀ w ∈ wsX20, w ∈ lw_all := lw_in wsX20 [177, 179, 181, 183, 185, 187, 189] (by decide +kernel) (by decide +kernel)

/-! FlockHuts$Sheep -/
set_option maxRecDepth 100000
def RX4 : String := "FlockHuts$Sheep"
def TX4 : u_T := fun k => match k with
  | 0 => ("FlockHuts$Sheep", "x", "I", true)
  | 1 => ("FlockHuts$Sheep", "y", "I", true)
  | 2 => ("FlockHuts$Sheep", "weight", "I", false)
  | _ => ("FlockHuts$Sheep", "hut", "I", false)
def tyX4 : Nat → FieldType := fun k => match k with
  | 0 => .int
  | 1 => .int
  | 2 => .int
  | _ => .int
abbrev wsX40 : List Cond := u_ws RX4 TX4 4
theorem nmX4 : ∀ a, a < 4 → ∀ b, b < 4 → a ≠ b → (TX4 a).2.1 ≠ (TX4 b).2.1 := by decide +kernel
theorem tyX4_ok : ∀ k, k < 4 → parseFieldDescriptor (TX4 k).2.2.1 = some (tyX4 k) := by decide +kernel
abbrev cX4_copy : ByteArray := prog_11_method_2_code
def yX4_copy : MethodName := ⟨RX4, "copy", "()LFlockHuts$Sheep;"⟩
def dkwX4_copy_1 : List UInt8 := [180, 0, 9, 181, 0, 9, 43, 176]
abbrev dktX4_copy_1 : List UInt8 := dkwX4_copy_1 ++ []
def dkwX4_copy_0 : List UInt8 := [187, 0, 10, 89, 42, 180, 0, 15, 42, 180, 0, 18, 42, 180, 0, 21, 183, 0, 24, 76, 43, 42]
abbrev dktX4_copy_0 : List UInt8 := dkwX4_copy_0 ++ dktX4_copy_1
theorem dksX4_copy_0 : cX4_copy.data.toList.drop 0 = dktX4_copy_0 := by decide +kernel
theorem dksX4_copy_1 : cX4_copy.data.toList.drop 22 = dktX4_copy_1 := dk_seg dksX4_copy_0 22 rfl rfl
theorem dX4_copy_0 : decode cX4_copy 0 = .ok (.new 10, 3) := dk_187 0 10 (dk_at dksX4_copy_0 0 rfl rfl)
theorem dX4_copy_3 : decode cX4_copy 3 = .ok (.dup, 1) := dk_89 (dk_at dksX4_copy_0 3 rfl rfl)
theorem dX4_copy_4 : decode cX4_copy 4 = .ok (.aload_n 0, 1) := dk_42 (dk_at dksX4_copy_0 4 rfl rfl)
theorem dX4_copy_5 : decode cX4_copy 5 = .ok (.getfield 15, 3) := dk_180 0 15 (dk_at dksX4_copy_0 5 rfl rfl)
theorem dX4_copy_8 : decode cX4_copy 8 = .ok (.aload_n 0, 1) := dk_42 (dk_at dksX4_copy_0 8 rfl rfl)
theorem dX4_copy_9 : decode cX4_copy 9 = .ok (.getfield 18, 3) := dk_180 0 18 (dk_at dksX4_copy_0 9 rfl rfl)
theorem dX4_copy_12 : decode cX4_copy 12 = .ok (.aload_n 0, 1) := dk_42 (dk_at dksX4_copy_0 12 rfl rfl)
theorem dX4_copy_13 : decode cX4_copy 13 = .ok (.getfield 21, 3) := dk_180 0 21 (dk_at dksX4_copy_0 13 rfl rfl)
theorem dX4_copy_16 : decode cX4_copy 16 = .ok (.invokespecial 24, 3) := dk_183 0 24 (dk_at dksX4_copy_0 16 rfl rfl)
theorem dX4_copy_19 : decode cX4_copy 19 = .ok (.astore_n 1, 1) := dk_76 (dk_at dksX4_copy_0 19 rfl rfl)
theorem dX4_copy_20 : decode cX4_copy 20 = .ok (.aload_n 1, 1) := dk_43 (dk_at dksX4_copy_0 20 rfl rfl)
theorem dX4_copy_21 : decode cX4_copy 21 = .ok (.aload_n 0, 1) := dk_42 (dk_at dksX4_copy_0 21 rfl rfl)
theorem dX4_copy_22 : decode cX4_copy 22 = .ok (.getfield 9, 3) := dk_180 0 9 (dk_at dksX4_copy_1 0 rfl rfl)
theorem dX4_copy_25 : decode cX4_copy 25 = .ok (.putfield 9, 3) := dk_181 0 9 (dk_at dksX4_copy_1 3 rfl rfl)
theorem dX4_copy_28 : decode cX4_copy 28 = .ok (.aload_n 1, 1) := dk_43 (dk_at dksX4_copy_1 6 rfl rfl)
theorem dX4_copy_29 : decode cX4_copy 29 = .ok (.areturn, 1) := dk_176 (dk_at dksX4_copy_1 7 rfl rfl)
abbrev cX4_init : ByteArray := prog_11_method_1_code
def yX4_init : MethodName := ⟨RX4, "<init>", "(III)V"⟩
def dkwX4_init_1 : List UInt8 := [177]
abbrev dktX4_init_1 : List UInt8 := dkwX4_init_1 ++ []
def dkwX4_init_0 : List UInt8 := [42, 183, 0, 3, 42, 2, 181, 0, 9, 42, 27, 181, 0, 15, 42, 28, 181, 0, 18, 42, 29, 181, 0, 21]
abbrev dktX4_init_0 : List UInt8 := dkwX4_init_0 ++ dktX4_init_1
theorem dksX4_init_0 : cX4_init.data.toList.drop 0 = dktX4_init_0 := by decide +kernel
theorem dksX4_init_1 : cX4_init.data.toList.drop 24 = dktX4_init_1 := dk_seg dksX4_init_0 24 rfl rfl
theorem dX4_init_0 : decode cX4_init 0 = .ok (.aload_n 0, 1) := dk_42 (dk_at dksX4_init_0 0 rfl rfl)
theorem dX4_init_1 : decode cX4_init 1 = .ok (.invokespecial 3, 3) := dk_183 0 3 (dk_at dksX4_init_0 1 rfl rfl)
theorem dX4_init_4 : decode cX4_init 4 = .ok (.aload_n 0, 1) := dk_42 (dk_at dksX4_init_0 4 rfl rfl)
theorem dX4_init_5 : decode cX4_init 5 = .ok (.iconst (-1), 1) := dk_2 (dk_at dksX4_init_0 5 rfl rfl)
theorem dX4_init_6 : decode cX4_init 6 = .ok (.putfield 9, 3) := dk_181 0 9 (dk_at dksX4_init_0 6 rfl rfl)
theorem dX4_init_9 : decode cX4_init 9 = .ok (.aload_n 0, 1) := dk_42 (dk_at dksX4_init_0 9 rfl rfl)
theorem dX4_init_10 : decode cX4_init 10 = .ok (.iload_n 1, 1) := dk_27 (dk_at dksX4_init_0 10 rfl rfl)
theorem dX4_init_11 : decode cX4_init 11 = .ok (.putfield 15, 3) := dk_181 0 15 (dk_at dksX4_init_0 11 rfl rfl)
theorem dX4_init_14 : decode cX4_init 14 = .ok (.aload_n 0, 1) := dk_42 (dk_at dksX4_init_0 14 rfl rfl)
theorem dX4_init_15 : decode cX4_init 15 = .ok (.iload_n 2, 1) := dk_28 (dk_at dksX4_init_0 15 rfl rfl)
theorem dX4_init_16 : decode cX4_init 16 = .ok (.putfield 18, 3) := dk_181 0 18 (dk_at dksX4_init_0 16 rfl rfl)
theorem dX4_init_19 : decode cX4_init 19 = .ok (.aload_n 0, 1) := dk_42 (dk_at dksX4_init_0 19 rfl rfl)
theorem dX4_init_20 : decode cX4_init 20 = .ok (.iload_n 3, 1) := dk_29 (dk_at dksX4_init_0 20 rfl rfl)
theorem dX4_init_21 : decode cX4_init 21 = .ok (.putfield 21, 3) := dk_181 0 21 (dk_at dksX4_init_0 21 rfl rfl)
theorem dX4_init_24 : decode cX4_init 24 = .ok (.return_, 1) := dk_177 (dk_at dksX4_init_1 0 rfl rfl)
abbrev cX4_x : ByteArray := prog_11_method_3_code
def yX4_x : MethodName := ⟨RX4, "x", "()I"⟩
theorem dX4_x_0 : decode cX4_x 0 = .ok (.aload_n 0, 1) := by decide +kernel
theorem dX4_x_1 : decode cX4_x 1 = .ok (.getfield 15, 3) := by decide +kernel
theorem dX4_x_4 : decode cX4_x 4 = .ok (.ireturn, 1) := by decide +kernel
abbrev cX4_y : ByteArray := prog_11_method_4_code
def yX4_y : MethodName := ⟨RX4, "y", "()I"⟩
theorem dX4_y_0 : decode cX4_y 0 = .ok (.aload_n 0, 1) := by decide +kernel
theorem dX4_y_1 : decode cX4_y 1 = .ok (.getfield 18, 3) := by decide +kernel
theorem dX4_y_4 : decode cX4_y 4 = .ok (.ireturn, 1) := by decide +kernel
theorem q95 : (Jvm.Cond.initialized "FlockHuts$Sheep") ∈ lw_all := lw_g (lw_at lw_m1 19 rfl) rfl
theorem q458 : (Jvm.Cond.instanceMethod ({ cls := "FlockHuts$Sheep", name := "copy", desc := "()LFlockHuts$Sheep;" } : Jvm.MethodName)) ∈ lw_all := lw_g (lw_at lw_m2 142 rfl) rfl
theorem q459 : (Jvm.Cond.selects "FlockHuts$Sheep" ({ cls := "FlockHuts$Sheep", name := "copy", desc := "()LFlockHuts$Sheep;" } : Jvm.MethodName) ({ cls := "FlockHuts$Sheep", name := "copy", desc := "()LFlockHuts$Sheep;" } : Jvm.MethodName)) ∈ lw_all := lw_g (lw_at lw_m2 143 rfl) rfl
theorem q460 : (Jvm.Cond.code ({ cls := "FlockHuts$Sheep", name := "copy", desc := "()LFlockHuts$Sheep;" } : Jvm.MethodName) prog_11_method_2_code (2 : Nat) (Option.some (Jvm.ClassFile.FieldType.object "FlockHuts$Sheep"))) ∈ lw_all := lw_g (lw_at lw_m2 144 rfl) rfl
theorem q461 : (Jvm.Cond.classLink "FlockHuts$Sheep" (10 : Nat) "FlockHuts$Sheep") ∈ lw_all := lw_g (lw_at lw_m2 145 rfl) rfl
theorem q462 : (Jvm.Cond.instantiable "FlockHuts$Sheep" (4 : Nat)) ∈ lw_all := lw_g (lw_at lw_m2 146 rfl) rfl
theorem q463 : (Jvm.Cond.methodLink "FlockHuts$Sheep" (24 : Nat) ({ cls := "FlockHuts$Sheep", name := "<init>", desc := "(III)V" } : Jvm.MethodName)) ∈ lw_all := lw_g (lw_at lw_m2 147 rfl) rfl
theorem q464 : (Jvm.Cond.instanceMethod ({ cls := "FlockHuts$Sheep", name := "<init>", desc := "(III)V" } : Jvm.MethodName)) ∈ lw_all := lw_g (lw_at lw_m2 148 rfl) rfl
theorem q465 : (Jvm.Cond.code ({ cls := "FlockHuts$Sheep", name := "<init>", desc := "(III)V" } : Jvm.MethodName) prog_11_method_1_code (4 : Nat) (Option.none : Option Jvm.ClassFile.FieldType)) ∈ lw_all := lw_g (lw_at lw_m2 149 rfl) rfl
theorem q466 : (Jvm.Cond.methodLink "FlockHuts$Sheep" (3 : Nat) ({ cls := "java/lang/Object", name := "<init>", desc := "()V" } : Jvm.MethodName)) ∈ lw_all := lw_g (lw_at lw_m2 150 rfl) rfl
theorem q467 : (Jvm.Cond.fieldLink "FlockHuts$Sheep" (15 : Nat) "FlockHuts$Sheep" "x" "I") ∈ lw_all := lw_g (lw_at lw_m2 151 rfl) rfl
theorem q471 : (Jvm.Cond.fieldLink "FlockHuts$Sheep" (18 : Nat) "FlockHuts$Sheep" "y" "I") ∈ lw_all := lw_g (lw_at lw_m2 155 rfl) rfl
theorem q475 : (Jvm.Cond.fieldLink "FlockHuts$Sheep" (21 : Nat) "FlockHuts$Sheep" "weight" "I") ∈ lw_all := lw_g (lw_at lw_m2 159 rfl) rfl
theorem q479 : (Jvm.Cond.fieldLink "FlockHuts$Sheep" (9 : Nat) "FlockHuts$Sheep" "hut" "I") ∈ lw_all := lw_g (lw_at lw_m2 163 rfl) rfl
theorem q483 : (Jvm.Cond.laysFinal "FlockHuts$Sheep" "FlockHuts$Sheep" "x" "I") ∈ lw_all := lw_g (lw_at lw_m2 167 rfl) rfl
theorem q484 : (Jvm.Cond.soleField "FlockHuts$Sheep" "x") ∈ lw_all := lw_g (lw_at lw_m2 168 rfl) rfl
theorem q485 : (Jvm.Cond.laysFinal "FlockHuts$Sheep" "FlockHuts$Sheep" "y" "I") ∈ lw_all := lw_g (lw_at lw_m2 169 rfl) rfl
theorem q486 : (Jvm.Cond.soleField "FlockHuts$Sheep" "y") ∈ lw_all := lw_g (lw_at lw_m2 170 rfl) rfl
theorem q487 : (Jvm.Cond.lays "FlockHuts$Sheep" "FlockHuts$Sheep" "weight" "I") ∈ lw_all := lw_g (lw_at lw_m2 171 rfl) rfl
theorem q488 : (Jvm.Cond.soleField "FlockHuts$Sheep" "weight") ∈ lw_all := lw_g (lw_at lw_m2 172 rfl) rfl
theorem q489 : (Jvm.Cond.lays "FlockHuts$Sheep" "FlockHuts$Sheep" "hut" "I") ∈ lw_all := lw_g (lw_at lw_m2 173 rfl) rfl
theorem q490 : (Jvm.Cond.soleField "FlockHuts$Sheep" "hut") ∈ lw_all := lw_g (lw_at lw_m2 174 rfl) rfl
theorem q491 : (Jvm.Cond.superclass "FlockHuts$Sheep" "java/lang/Object") ∈ lw_all := lw_g (lw_at lw_m2 175 rfl) rfl
theorem q533 : (Jvm.Cond.selects "FlockHuts$Sheep" ({ cls := "java/lang/Object", name := "getClass", desc := "()Ljava/lang/Class;" } : Jvm.MethodName) ({ cls := "java/lang/Object", name := "getClass", desc := "()Ljava/lang/Class;" } : Jvm.MethodName)) ∈ lw_all := lw_g (lw_at lw_m2 217 rfl) rfl
theorem q589 : (Jvm.Cond.castable "FlockHuts$Sheep" "FlockHuts$Placed") ∈ lw_tbl := lw_at lw_m3 33 rfl
theorem q590 : (Jvm.Cond.selects "FlockHuts$Sheep" ({ cls := "FlockHuts$Placed", name := "x", desc := "()I" } : Jvm.MethodName) ({ cls := "FlockHuts$Sheep", name := "x", desc := "()I" } : Jvm.MethodName)) ∈ lw_all := lw_g (lw_at lw_m3 34 rfl) rfl
theorem q591 : (Jvm.Cond.unhidden "FlockHuts$Sheep" "x" "()I") ∈ lw_tbl := lw_at lw_m3 35 rfl
theorem q592 : (Jvm.Cond.instanceMethod ({ cls := "FlockHuts$Sheep", name := "x", desc := "()I" } : Jvm.MethodName)) ∈ lw_all := lw_g (lw_at lw_m3 36 rfl) rfl
theorem q593 : (Jvm.Cond.publicMethod ({ cls := "FlockHuts$Sheep", name := "x", desc := "()I" } : Jvm.MethodName)) ∈ lw_tbl := lw_at lw_m3 37 rfl
theorem q594 : (Jvm.Cond.code ({ cls := "FlockHuts$Sheep", name := "x", desc := "()I" } : Jvm.MethodName) prog_11_method_3_code (1 : Nat) (Option.some Jvm.ClassFile.FieldType.int)) ∈ lw_all := lw_g (lw_at lw_m3 38 rfl) rfl
theorem q609 : (Jvm.Cond.selects "FlockHuts$Sheep" ({ cls := "FlockHuts$Placed", name := "y", desc := "()I" } : Jvm.MethodName) ({ cls := "FlockHuts$Sheep", name := "y", desc := "()I" } : Jvm.MethodName)) ∈ lw_all := lw_g (lw_at lw_m3 53 rfl) rfl
theorem q610 : (Jvm.Cond.unhidden "FlockHuts$Sheep" "y" "()I") ∈ lw_tbl := lw_at lw_m3 54 rfl
theorem q611 : (Jvm.Cond.instanceMethod ({ cls := "FlockHuts$Sheep", name := "y", desc := "()I" } : Jvm.MethodName)) ∈ lw_all := lw_g (lw_at lw_m3 55 rfl) rfl
theorem q612 : (Jvm.Cond.publicMethod ({ cls := "FlockHuts$Sheep", name := "y", desc := "()I" } : Jvm.MethodName)) ∈ lw_tbl := lw_at lw_m3 56 rfl
theorem q613 : (Jvm.Cond.code ({ cls := "FlockHuts$Sheep", name := "y", desc := "()I" } : Jvm.MethodName) prog_11_method_4_code (1 : Nat) (Option.some Jvm.ClassFile.FieldType.int)) ∈ lw_all := lw_g (lw_at lw_m3 57 rfl) rfl
theorem q654 : (Jvm.Cond.unhidden "FlockHuts$Sheep" "distance" "(LFlockHuts$Placed;)I") ∈ lw_tbl := lw_at lw_m3 98 rfl
theorem q1257 : (Jvm.Cond.selects "FlockHuts$Sheep" ({ cls := "java/lang/Object", name := "equals", desc := "(Ljava/lang/Object;)Z" } : Jvm.MethodName) ({ cls := "java/lang/Object", name := "equals", desc := "(Ljava/lang/Object;)Z" } : Jvm.MethodName)) ∈ lw_all := lw_g (lw_at lw_m5 221 rfl) rfl
theorem q2445 : (Jvm.Cond.castable "FlockHuts$Sheep" "java/lang/Object") ∈ lw_tbl := lw_at lw_m10 209 rfl
theorem in_X4 : ∀ w ∈ wsX40, w ∈ lw_all := lw_in wsX40 [483, 485, 487, 489] (by decide +kernel) (by decide +kernel)

/-! FlockHuts$Hut -/
set_option maxRecDepth 100000
def RX5 : String := "FlockHuts$Hut"
def TX5 : u_T := fun k => match k with
  | 0 => ("FlockHuts$Hut", "x", "I", false)
  | _ => ("FlockHuts$Hut", "y", "I", false)
def tyX5 : Nat → FieldType := fun k => match k with
  | 0 => .int
  | _ => .int
abbrev wsX50 : List Cond := u_ws RX5 TX5 2
theorem nmX5 : ∀ a, a < 2 → ∀ b, b < 2 → a ≠ b → (TX5 a).2.1 ≠ (TX5 b).2.1 := by decide +kernel
theorem tyX5_ok : ∀ k, k < 2 → parseFieldDescriptor (TX5 k).2.2.1 = some (tyX5 k) := by decide +kernel
abbrev cX5_init : ByteArray := prog_5_method_1_code
def yX5_init : MethodName := ⟨RX5, "<init>", "(LFlockHuts$Placed;)V"⟩
def dkwX5_init_0 : List UInt8 := [42, 183, 0, 1, 42, 43, 182, 0, 7, 177]
abbrev dktX5_init_0 : List UInt8 := dkwX5_init_0 ++ []
theorem dksX5_init_0 : cX5_init.data.toList.drop 0 = dktX5_init_0 := by decide +kernel
theorem dX5_init_0 : decode cX5_init 0 = .ok (.aload_n 0, 1) := dk_42 (dk_at dksX5_init_0 0 rfl rfl)
theorem dX5_init_1 : decode cX5_init 1 = .ok (.invokespecial 1, 3) := dk_183 0 1 (dk_at dksX5_init_0 1 rfl rfl)
theorem dX5_init_4 : decode cX5_init 4 = .ok (.aload_n 0, 1) := dk_42 (dk_at dksX5_init_0 4 rfl rfl)
theorem dX5_init_5 : decode cX5_init 5 = .ok (.aload_n 1, 1) := dk_43 (dk_at dksX5_init_0 5 rfl rfl)
theorem dX5_init_6 : decode cX5_init 6 = .ok (.invokevirtual 7, 3) := dk_182 0 7 (dk_at dksX5_init_0 6 rfl rfl)
theorem dX5_init_9 : decode cX5_init 9 = .ok (.return_, 1) := dk_177 (dk_at dksX5_init_0 9 rfl rfl)
abbrev cX5_go : ByteArray := prog_5_method_2_code
def yX5_go : MethodName := ⟨RX5, "go", "(LFlockHuts$Placed;)V"⟩
def dkwX5_go_0 : List UInt8 := [42, 43, 185, 0, 13, 1, 0, 181, 0, 19, 42, 43, 185, 0, 22, 1, 0, 181, 0, 25, 177]
abbrev dktX5_go_0 : List UInt8 := dkwX5_go_0 ++ []
theorem dksX5_go_0 : cX5_go.data.toList.drop 0 = dktX5_go_0 := by decide +kernel
theorem dX5_go_0 : decode cX5_go 0 = .ok (.aload_n 0, 1) := dk_42 (dk_at dksX5_go_0 0 rfl rfl)
theorem dX5_go_1 : decode cX5_go 1 = .ok (.aload_n 1, 1) := dk_43 (dk_at dksX5_go_0 1 rfl rfl)
theorem dX5_go_2 : decode cX5_go 2 = .ok (.invokeinterface 13 1, 5) := by decide +kernel
theorem dX5_go_7 : decode cX5_go 7 = .ok (.putfield 19, 3) := dk_181 0 19 (dk_at dksX5_go_0 7 rfl rfl)
theorem dX5_go_10 : decode cX5_go 10 = .ok (.aload_n 0, 1) := dk_42 (dk_at dksX5_go_0 10 rfl rfl)
theorem dX5_go_11 : decode cX5_go 11 = .ok (.aload_n 1, 1) := dk_43 (dk_at dksX5_go_0 11 rfl rfl)
theorem dX5_go_12 : decode cX5_go 12 = .ok (.invokeinterface 22 1, 5) := by decide +kernel
theorem dX5_go_17 : decode cX5_go 17 = .ok (.putfield 25, 3) := dk_181 0 25 (dk_at dksX5_go_0 17 rfl rfl)
theorem dX5_go_20 : decode cX5_go 20 = .ok (.return_, 1) := dk_177 (dk_at dksX5_go_0 20 rfl rfl)
abbrev cX5_x : ByteArray := prog_5_method_3_code
def yX5_x : MethodName := ⟨RX5, "x", "()I"⟩
theorem dX5_x_0 : decode cX5_x 0 = .ok (.aload_n 0, 1) := by decide +kernel
theorem dX5_x_1 : decode cX5_x 1 = .ok (.getfield 19, 3) := by decide +kernel
theorem dX5_x_4 : decode cX5_x 4 = .ok (.ireturn, 1) := by decide +kernel
abbrev cX5_y : ByteArray := prog_5_method_4_code
def yX5_y : MethodName := ⟨RX5, "y", "()I"⟩
theorem dX5_y_0 : decode cX5_y 0 = .ok (.aload_n 0, 1) := by decide +kernel
theorem dX5_y_1 : decode cX5_y 1 = .ok (.getfield 25, 3) := by decide +kernel
theorem dX5_y_4 : decode cX5_y 4 = .ok (.ireturn, 1) := by decide +kernel
theorem q100 : (Jvm.Cond.initialized "FlockHuts$Hut") ∈ lw_all := lw_g (lw_at lw_m1 24 rfl) rfl
theorem q528 : (Jvm.Cond.selects "FlockHuts$Hut" ({ cls := "java/lang/Object", name := "getClass", desc := "()Ljava/lang/Class;" } : Jvm.MethodName) ({ cls := "java/lang/Object", name := "getClass", desc := "()Ljava/lang/Class;" } : Jvm.MethodName)) ∈ lw_all := lw_g (lw_at lw_m2 212 rfl) rfl
theorem q564 : (Jvm.Cond.instantiable "FlockHuts$Hut" (2 : Nat)) ∈ lw_all := lw_g (lw_at lw_m3 8 rfl) rfl
theorem q566 : (Jvm.Cond.instanceMethod ({ cls := "FlockHuts$Hut", name := "<init>", desc := "(LFlockHuts$Placed;)V" } : Jvm.MethodName)) ∈ lw_all := lw_g (lw_at lw_m3 10 rfl) rfl
theorem q567 : (Jvm.Cond.code ({ cls := "FlockHuts$Hut", name := "<init>", desc := "(LFlockHuts$Placed;)V" } : Jvm.MethodName) prog_5_method_1_code (2 : Nat) (Option.none : Option Jvm.ClassFile.FieldType)) ∈ lw_all := lw_g (lw_at lw_m3 11 rfl) rfl
theorem q568 : (Jvm.Cond.methodLink "FlockHuts$Hut" (1 : Nat) ({ cls := "java/lang/Object", name := "<init>", desc := "()V" } : Jvm.MethodName)) ∈ lw_all := lw_g (lw_at lw_m3 12 rfl) rfl
theorem q569 : (Jvm.Cond.methodLink "FlockHuts$Hut" (7 : Nat) ({ cls := "FlockHuts$Hut", name := "go", desc := "(LFlockHuts$Placed;)V" } : Jvm.MethodName)) ∈ lw_all := lw_g (lw_at lw_m3 13 rfl) rfl
theorem q570 : (Jvm.Cond.instanceMethod ({ cls := "FlockHuts$Hut", name := "go", desc := "(LFlockHuts$Placed;)V" } : Jvm.MethodName)) ∈ lw_all := lw_g (lw_at lw_m3 14 rfl) rfl
theorem q571 : (Jvm.Cond.selects "FlockHuts$Hut" ({ cls := "FlockHuts$Hut", name := "go", desc := "(LFlockHuts$Placed;)V" } : Jvm.MethodName) ({ cls := "FlockHuts$Hut", name := "go", desc := "(LFlockHuts$Placed;)V" } : Jvm.MethodName)) ∈ lw_all := lw_g (lw_at lw_m3 15 rfl) rfl
theorem q572 : (Jvm.Cond.code ({ cls := "FlockHuts$Hut", name := "go", desc := "(LFlockHuts$Placed;)V" } : Jvm.MethodName) prog_5_method_2_code (2 : Nat) (Option.none : Option Jvm.ClassFile.FieldType)) ∈ lw_all := lw_g (lw_at lw_m3 16 rfl) rfl
theorem q573 : (Jvm.Cond.interfaceEntry "FlockHuts$Hut" (13 : Nat)) ∈ lw_tbl := lw_at lw_m3 17 rfl
theorem q574 : (Jvm.Cond.methodLink "FlockHuts$Hut" (13 : Nat) ({ cls := "FlockHuts$Placed", name := "x", desc := "()I" } : Jvm.MethodName)) ∈ lw_all := lw_g (lw_at lw_m3 18 rfl) rfl
theorem q577 : (Jvm.Cond.castable "FlockHuts$Hut" "FlockHuts$Placed") ∈ lw_tbl := lw_at lw_m3 21 rfl
theorem q578 : (Jvm.Cond.selects "FlockHuts$Hut" ({ cls := "FlockHuts$Placed", name := "x", desc := "()I" } : Jvm.MethodName) ({ cls := "FlockHuts$Hut", name := "x", desc := "()I" } : Jvm.MethodName)) ∈ lw_all := lw_g (lw_at lw_m3 22 rfl) rfl
theorem q579 : (Jvm.Cond.unhidden "FlockHuts$Hut" "x" "()I") ∈ lw_tbl := lw_at lw_m3 23 rfl
theorem q580 : (Jvm.Cond.instanceMethod ({ cls := "FlockHuts$Hut", name := "x", desc := "()I" } : Jvm.MethodName)) ∈ lw_all := lw_g (lw_at lw_m3 24 rfl) rfl
theorem q581 : (Jvm.Cond.publicMethod ({ cls := "FlockHuts$Hut", name := "x", desc := "()I" } : Jvm.MethodName)) ∈ lw_tbl := lw_at lw_m3 25 rfl
theorem q582 : (Jvm.Cond.code ({ cls := "FlockHuts$Hut", name := "x", desc := "()I" } : Jvm.MethodName) prog_5_method_3_code (1 : Nat) (Option.some Jvm.ClassFile.FieldType.int)) ∈ lw_all := lw_g (lw_at lw_m3 26 rfl) rfl
theorem q595 : (Jvm.Cond.interfaceEntry "FlockHuts$Hut" (22 : Nat)) ∈ lw_tbl := lw_at lw_m3 39 rfl
theorem q596 : (Jvm.Cond.methodLink "FlockHuts$Hut" (22 : Nat) ({ cls := "FlockHuts$Placed", name := "y", desc := "()I" } : Jvm.MethodName)) ∈ lw_all := lw_g (lw_at lw_m3 40 rfl) rfl
theorem q599 : (Jvm.Cond.selects "FlockHuts$Hut" ({ cls := "FlockHuts$Placed", name := "y", desc := "()I" } : Jvm.MethodName) ({ cls := "FlockHuts$Hut", name := "y", desc := "()I" } : Jvm.MethodName)) ∈ lw_all := lw_g (lw_at lw_m3 43 rfl) rfl
theorem q600 : (Jvm.Cond.unhidden "FlockHuts$Hut" "y" "()I") ∈ lw_tbl := lw_at lw_m3 44 rfl
theorem q601 : (Jvm.Cond.instanceMethod ({ cls := "FlockHuts$Hut", name := "y", desc := "()I" } : Jvm.MethodName)) ∈ lw_all := lw_g (lw_at lw_m3 45 rfl) rfl
theorem q602 : (Jvm.Cond.publicMethod ({ cls := "FlockHuts$Hut", name := "y", desc := "()I" } : Jvm.MethodName)) ∈ lw_tbl := lw_at lw_m3 46 rfl
theorem q603 : (Jvm.Cond.code ({ cls := "FlockHuts$Hut", name := "y", desc := "()I" } : Jvm.MethodName) prog_5_method_4_code (1 : Nat) (Option.some Jvm.ClassFile.FieldType.int)) ∈ lw_all := lw_g (lw_at lw_m3 47 rfl) rfl
theorem q614 : (Jvm.Cond.fieldLink "FlockHuts$Hut" (19 : Nat) "FlockHuts$Hut" "x" "I") ∈ lw_all := lw_g (lw_at lw_m3 58 rfl) rfl
theorem q617 : (Jvm.Cond.fieldLink "FlockHuts$Hut" (25 : Nat) "FlockHuts$Hut" "y" "I") ∈ lw_all := lw_g (lw_at lw_m3 61 rfl) rfl
theorem q620 : (Jvm.Cond.lays "FlockHuts$Hut" "FlockHuts$Hut" "x" "I") ∈ lw_all := lw_g (lw_at lw_m3 64 rfl) rfl
theorem q621 : (Jvm.Cond.soleField "FlockHuts$Hut" "x") ∈ lw_all := lw_g (lw_at lw_m3 65 rfl) rfl
theorem q622 : (Jvm.Cond.lays "FlockHuts$Hut" "FlockHuts$Hut" "y" "I") ∈ lw_all := lw_g (lw_at lw_m3 66 rfl) rfl
theorem q623 : (Jvm.Cond.soleField "FlockHuts$Hut" "y") ∈ lw_all := lw_g (lw_at lw_m3 67 rfl) rfl
theorem q624 : (Jvm.Cond.superclass "FlockHuts$Hut" "java/lang/Object") ∈ lw_all := lw_g (lw_at lw_m3 68 rfl) rfl
theorem q645 : (Jvm.Cond.unhidden "FlockHuts$Hut" "distance" "(LFlockHuts$Placed;)I") ∈ lw_tbl := lw_at lw_m3 89 rfl
theorem q737 : (Jvm.Cond.unhidden "FlockHuts$Hut" "isAt" "(LFlockHuts$Placed;)Z") ∈ lw_tbl := lw_at lw_m3 181 rfl
theorem q1252 : (Jvm.Cond.selects "FlockHuts$Hut" ({ cls := "java/lang/Object", name := "equals", desc := "(Ljava/lang/Object;)Z" } : Jvm.MethodName) ({ cls := "java/lang/Object", name := "equals", desc := "(Ljava/lang/Object;)Z" } : Jvm.MethodName)) ∈ lw_all := lw_g (lw_at lw_m5 216 rfl) rfl
theorem q2446 : (Jvm.Cond.castable "FlockHuts$Hut" "java/lang/Object") ∈ lw_tbl := lw_at lw_m10 210 rfl
theorem in_X5 : ∀ w ∈ wsX50, w ∈ lw_all := lw_in wsX50 [620, 622] (by decide +kernel) (by decide +kernel)

/-! FlockHuts$Order -/
set_option maxRecDepth 100000
def RX6 : String := "FlockHuts$Order"
def TX6 : u_T := fun k => match k with
  | 0 => ("FlockHuts$Order", "word", "Ljava/lang/String;", true)
  | _ => ("FlockHuts$Order", "numbers", "[I", true)
def tyX6 : Nat → FieldType := fun k => match k with
  | 0 => .object "java/lang/String"
  | _ => .array .int
abbrev wsX60 : List Cond := u_ws RX6 TX6 2
theorem nmX6 : ∀ a, a < 2 → ∀ b, b < 2 → a ≠ b → (TX6 a).2.1 ≠ (TX6 b).2.1 := by decide +kernel
theorem tyX6_ok : ∀ k, k < 2 → parseFieldDescriptor (TX6 k).2.2.1 = some (tyX6 k) := by decide +kernel
abbrev cX6_init : ByteArray := prog_6_method_1_code
def yX6_init : MethodName := ⟨RX6, "<init>", "(Ljava/lang/String;[I)V"⟩
def dkwX6_init_0 : List UInt8 := [42, 183, 0, 3, 42, 43, 181, 0, 9, 42, 44, 181, 0, 15, 177]
abbrev dktX6_init_0 : List UInt8 := dkwX6_init_0 ++ []
theorem dksX6_init_0 : cX6_init.data.toList.drop 0 = dktX6_init_0 := by decide +kernel
theorem dX6_init_0 : decode cX6_init 0 = .ok (.aload_n 0, 1) := dk_42 (dk_at dksX6_init_0 0 rfl rfl)
theorem dX6_init_1 : decode cX6_init 1 = .ok (.invokespecial 3, 3) := dk_183 0 3 (dk_at dksX6_init_0 1 rfl rfl)
theorem dX6_init_4 : decode cX6_init 4 = .ok (.aload_n 0, 1) := dk_42 (dk_at dksX6_init_0 4 rfl rfl)
theorem dX6_init_5 : decode cX6_init 5 = .ok (.aload_n 1, 1) := dk_43 (dk_at dksX6_init_0 5 rfl rfl)
theorem dX6_init_6 : decode cX6_init 6 = .ok (.putfield 9, 3) := dk_181 0 9 (dk_at dksX6_init_0 6 rfl rfl)
theorem dX6_init_9 : decode cX6_init 9 = .ok (.aload_n 0, 1) := dk_42 (dk_at dksX6_init_0 9 rfl rfl)
theorem dX6_init_10 : decode cX6_init 10 = .ok (.aload_n 2, 1) := dk_44 (dk_at dksX6_init_0 10 rfl rfl)
theorem dX6_init_11 : decode cX6_init 11 = .ok (.putfield 15, 3) := dk_181 0 15 (dk_at dksX6_init_0 11 rfl rfl)
theorem dX6_init_14 : decode cX6_init 14 = .ok (.return_, 1) := dk_177 (dk_at dksX6_init_0 14 rfl rfl)
abbrev cX6_make : ByteArray := prog_6_method_2_code
def yX6_make : MethodName := ⟨RX6, "make", "(LFlockHuts$Field;)I"⟩
def dkwX6_make_15 : List UInt8 := [46, 182, 0, 72, 172]
abbrev dktX6_make_15 : List UInt8 := dkwX6_make_15 ++ []
def dkwX6_make_14 : List UInt8 := [172, 43, 42, 180, 0, 15, 3, 46, 42, 180, 0, 15, 4, 46, 182, 0, 70, 172, 43, 42, 180, 0, 15, 3]
abbrev dktX6_make_14 : List UInt8 := dkwX6_make_14 ++ dktX6_make_15
def dkwX6_make_13 : List UInt8 := [180, 0, 15, 4, 46, 182, 0, 64, 172, 43, 182, 0, 66, 172, 43, 42, 180, 0, 15, 3, 46, 182, 0, 68]
abbrev dktX6_make_13 : List UInt8 := dkwX6_make_13 ++ dktX6_make_14
def dkwX6_make_12 : List UInt8 := [180, 0, 15, 4, 46, 42, 180, 0, 15, 5, 46, 182, 0, 62, 172, 43, 42, 180, 0, 15, 3, 46, 42]
abbrev dktX6_make_12 : List UInt8 := dkwX6_make_12 ++ dktX6_make_13
def dkwX6_make_11 : List UInt8 := [182, 0, 57, 172, 43, 42, 180, 0, 15, 3, 46, 182, 0, 60, 172, 43, 42, 180, 0, 15, 3, 46, 42]
abbrev dktX6_make_11 : List UInt8 := dkwX6_make_11 ++ dktX6_make_12
def dkwX6_make_10 : List UInt8 := [42, 180, 0, 15, 3, 46, 42, 180, 0, 15, 4, 46, 182, 0, 53, 172, 43, 42, 180, 0, 15, 3, 46]
abbrev dktX6_make_10 : List UInt8 := dkwX6_make_10 ++ dktX6_make_11
def dkwX6_make_9 : List UInt8 := [43, 42, 180, 0, 15, 3, 46, 42, 180, 0, 15, 4, 46, 42, 180, 0, 15, 5, 46, 182, 0, 47, 172, 43]
abbrev dktX6_make_9 : List UInt8 := dkwX6_make_9 ++ dktX6_make_10
def dkwX6_make_8 : List UInt8 := [170, 0, 0, 0, 184, 0, 0, 0, 0, 0, 0, 0, 8, 0, 0, 0, 49, 0, 0, 0, 72, 0, 0, 0, 89, 0, 0, 0, 100, 0, 0, 0, 111, 0, 0, 0, 134, 0, 0, 0, 151, 0, 0, 0, 156, 0, 0, 0, 167]
abbrev dktX6_make_8 : List UInt8 := dkwX6_make_8 ++ dktX6_make_9
def dkwX6_make_7 : List UInt8 := [182, 0, 27, 153, 0, 6, 16, 8, 62, 29]
abbrev dktX6_make_7 : List UInt8 := dkwX6_make_7 ++ dktX6_make_8
def dkwX6_make_6 : List UInt8 := [62, 167, 0, 30, 44, 18, 43, 182, 0, 27, 153, 0, 21, 16, 7, 62, 167, 0, 15, 44, 18, 45]
abbrev dktX6_make_6 : List UInt8 := dkwX6_make_6 ++ dktX6_make_7
def dkwX6_make_5 : List UInt8 := [18, 39, 182, 0, 27, 153, 0, 50, 8, 62, 167, 0, 45, 44, 18, 41, 182, 0, 27, 153, 0, 36, 16, 6]
abbrev dktX6_make_5 : List UInt8 := dkwX6_make_5 ++ dktX6_make_6
def dkwX6_make_4 : List UInt8 := [153, 0, 78, 6, 62, 167, 0, 73, 44, 18, 37, 182, 0, 27, 153, 0, 64, 7, 62, 167, 0, 59, 44]
abbrev dktX6_make_4 : List UInt8 := dkwX6_make_4 ++ dktX6_make_5
def dkwX6_make_3 : List UInt8 := [62, 167, 0, 101, 44, 18, 33, 182, 0, 27, 153, 0, 92, 5, 62, 167, 0, 87, 44, 18, 35, 182, 0, 27]
abbrev dktX6_make_3 : List UInt8 := dkwX6_make_3 ++ dktX6_make_4
def dkwX6_make_2 : List UInt8 := [44, 18, 25, 182, 0, 27, 153, 0, 120, 3, 62, 167, 0, 115, 44, 18, 31, 182, 0, 27, 153, 0, 106, 4]
abbrev dktX6_make_2 : List UInt8 := dkwX6_make_2 ++ dktX6_make_3
def dkwX6_make_1 : List UInt8 := [171, 0, 0, 0, 207, 0, 0, 0, 9, 202, 3, 17, 75, 0, 0, 0, 180, 202, 213, 95, 178, 0, 0, 0, 123, 0, 1, 133, 60, 0, 0, 0, 195, 0, 1, 149, 7, 0, 0, 0, 95, 0, 51, 59, 209, 0, 0, 0, 137, 6, 33, 78, 183, 0, 0, 0, 109, 6, 122, 177, 142, 0, 0, 0, 165, 6, 133, 93, 91, 0, 0, 0, 81, 6, 188, 109, 124, 0, 0, 0, 151]
abbrev dktX6_make_1 : List UInt8 := dkwX6_make_1 ++ dktX6_make_2
def dkwX6_make_0 : List UInt8 := [42, 180, 0, 9, 77, 2, 62, 44, 182, 0, 19]
abbrev dktX6_make_0 : List UInt8 := dkwX6_make_0 ++ dktX6_make_1
theorem dksX6_make_0 : cX6_make.data.toList.drop 0 = dktX6_make_0 := by decide +kernel
theorem dksX6_make_1 : cX6_make.data.toList.drop 11 = dktX6_make_1 := dk_seg dksX6_make_0 11 rfl rfl
theorem dksX6_make_2 : cX6_make.data.toList.drop 92 = dktX6_make_2 := dk_seg dksX6_make_1 81 rfl rfl
theorem dksX6_make_3 : cX6_make.data.toList.drop 116 = dktX6_make_3 := dk_seg dksX6_make_2 24 rfl rfl
theorem dksX6_make_4 : cX6_make.data.toList.drop 140 = dktX6_make_4 := dk_seg dksX6_make_3 24 rfl rfl
theorem dksX6_make_5 : cX6_make.data.toList.drop 163 = dktX6_make_5 := dk_seg dksX6_make_4 23 rfl rfl
theorem dksX6_make_6 : cX6_make.data.toList.drop 187 = dktX6_make_6 := dk_seg dksX6_make_5 24 rfl rfl
theorem dksX6_make_7 : cX6_make.data.toList.drop 209 = dktX6_make_7 := dk_seg dksX6_make_6 22 rfl rfl
theorem dksX6_make_8 : cX6_make.data.toList.drop 219 = dktX6_make_8 := dk_seg dksX6_make_7 10 rfl rfl
theorem dksX6_make_9 : cX6_make.data.toList.drop 268 = dktX6_make_9 := dk_seg dksX6_make_8 49 rfl rfl
theorem dksX6_make_10 : cX6_make.data.toList.drop 292 = dktX6_make_10 := dk_seg dksX6_make_9 24 rfl rfl
theorem dksX6_make_11 : cX6_make.data.toList.drop 315 = dktX6_make_11 := dk_seg dksX6_make_10 23 rfl rfl
theorem dksX6_make_12 : cX6_make.data.toList.drop 338 = dktX6_make_12 := dk_seg dksX6_make_11 23 rfl rfl
theorem dksX6_make_13 : cX6_make.data.toList.drop 361 = dktX6_make_13 := dk_seg dksX6_make_12 23 rfl rfl
theorem dksX6_make_14 : cX6_make.data.toList.drop 385 = dktX6_make_14 := dk_seg dksX6_make_13 24 rfl rfl
theorem dksX6_make_15 : cX6_make.data.toList.drop 409 = dktX6_make_15 := dk_seg dksX6_make_14 24 rfl rfl
theorem dX6_make_0 : decode cX6_make 0 = .ok (.aload_n 0, 1) := dk_42 (dk_at dksX6_make_0 0 rfl rfl)
theorem dX6_make_1 : decode cX6_make 1 = .ok (.getfield 9, 3) := dk_180 0 9 (dk_at dksX6_make_0 1 rfl rfl)
theorem dX6_make_4 : decode cX6_make 4 = .ok (.astore_n 2, 1) := dk_77 (dk_at dksX6_make_0 4 rfl rfl)
theorem dX6_make_5 : decode cX6_make 5 = .ok (.iconst (-1), 1) := dk_2 (dk_at dksX6_make_0 5 rfl rfl)
theorem dX6_make_6 : decode cX6_make 6 = .ok (.istore_n 3, 1) := dk_62 (dk_at dksX6_make_0 6 rfl rfl)
theorem dX6_make_7 : decode cX6_make 7 = .ok (.aload_n 2, 1) := dk_44 (dk_at dksX6_make_0 7 rfl rfl)
theorem dX6_make_8 : decode cX6_make 8 = .ok (.invokevirtual 19, 3) := dk_182 0 19 (dk_at dksX6_make_0 8 rfl rfl)
theorem dX6_make_11 : decode cX6_make 11 = .ok (.lookupswitch 207 #[(-905768629, 180), (-891985998, 123), (99644, 195), (103687, 95), (3357649, 137), (102846135, 109), (108704142, 165), (109403483, 81), (113012092, 151)], 81) := by decide +kernel
theorem dX6_make_92 : decode cX6_make 92 = .ok (.aload_n 2, 1) := dk_44 (dk_at dksX6_make_2 0 rfl rfl)
theorem dX6_make_93 : decode cX6_make 93 = .ok (.ldc 25, 2) := dk_18 25 (dk_at dksX6_make_2 1 rfl rfl)
theorem dX6_make_95 : decode cX6_make 95 = .ok (.invokevirtual 27, 3) := dk_182 0 27 (dk_at dksX6_make_2 3 rfl rfl)
theorem dX6_make_98 : decode cX6_make 98 = .ok (.ifCond .eq 120, 3) := dk_153 0 120 (dk_at dksX6_make_2 6 rfl rfl)
theorem dX6_make_101 : decode cX6_make 101 = .ok (.iconst 0, 1) := dk_3 (dk_at dksX6_make_2 9 rfl rfl)
theorem dX6_make_102 : decode cX6_make 102 = .ok (.istore_n 3, 1) := dk_62 (dk_at dksX6_make_2 10 rfl rfl)
theorem dX6_make_103 : decode cX6_make 103 = .ok (.goto 115, 3) := dk_167 0 115 (dk_at dksX6_make_2 11 rfl rfl)
theorem dX6_make_106 : decode cX6_make 106 = .ok (.aload_n 2, 1) := dk_44 (dk_at dksX6_make_2 14 rfl rfl)
theorem dX6_make_107 : decode cX6_make 107 = .ok (.ldc 31, 2) := dk_18 31 (dk_at dksX6_make_2 15 rfl rfl)
theorem dX6_make_109 : decode cX6_make 109 = .ok (.invokevirtual 27, 3) := dk_182 0 27 (dk_at dksX6_make_2 17 rfl rfl)
theorem dX6_make_112 : decode cX6_make 112 = .ok (.ifCond .eq 106, 3) := dk_153 0 106 (dk_at dksX6_make_2 20 rfl rfl)
theorem dX6_make_115 : decode cX6_make 115 = .ok (.iconst 1, 1) := dk_4 (dk_at dksX6_make_2 23 rfl rfl)
theorem dX6_make_116 : decode cX6_make 116 = .ok (.istore_n 3, 1) := dk_62 (dk_at dksX6_make_3 0 rfl rfl)
theorem dX6_make_117 : decode cX6_make 117 = .ok (.goto 101, 3) := dk_167 0 101 (dk_at dksX6_make_3 1 rfl rfl)
theorem dX6_make_120 : decode cX6_make 120 = .ok (.aload_n 2, 1) := dk_44 (dk_at dksX6_make_3 4 rfl rfl)
theorem dX6_make_121 : decode cX6_make 121 = .ok (.ldc 33, 2) := dk_18 33 (dk_at dksX6_make_3 5 rfl rfl)
theorem dX6_make_123 : decode cX6_make 123 = .ok (.invokevirtual 27, 3) := dk_182 0 27 (dk_at dksX6_make_3 7 rfl rfl)
theorem dX6_make_126 : decode cX6_make 126 = .ok (.ifCond .eq 92, 3) := dk_153 0 92 (dk_at dksX6_make_3 10 rfl rfl)
theorem dX6_make_129 : decode cX6_make 129 = .ok (.iconst 2, 1) := dk_5 (dk_at dksX6_make_3 13 rfl rfl)
theorem dX6_make_130 : decode cX6_make 130 = .ok (.istore_n 3, 1) := dk_62 (dk_at dksX6_make_3 14 rfl rfl)
theorem dX6_make_131 : decode cX6_make 131 = .ok (.goto 87, 3) := dk_167 0 87 (dk_at dksX6_make_3 15 rfl rfl)
theorem dX6_make_134 : decode cX6_make 134 = .ok (.aload_n 2, 1) := dk_44 (dk_at dksX6_make_3 18 rfl rfl)
theorem dX6_make_135 : decode cX6_make 135 = .ok (.ldc 35, 2) := dk_18 35 (dk_at dksX6_make_3 19 rfl rfl)
theorem dX6_make_137 : decode cX6_make 137 = .ok (.invokevirtual 27, 3) := dk_182 0 27 (dk_at dksX6_make_3 21 rfl rfl)
theorem dX6_make_140 : decode cX6_make 140 = .ok (.ifCond .eq 78, 3) := dk_153 0 78 (dk_at dksX6_make_4 0 rfl rfl)
theorem dX6_make_143 : decode cX6_make 143 = .ok (.iconst 3, 1) := dk_6 (dk_at dksX6_make_4 3 rfl rfl)
theorem dX6_make_144 : decode cX6_make 144 = .ok (.istore_n 3, 1) := dk_62 (dk_at dksX6_make_4 4 rfl rfl)
theorem dX6_make_145 : decode cX6_make 145 = .ok (.goto 73, 3) := dk_167 0 73 (dk_at dksX6_make_4 5 rfl rfl)
theorem dX6_make_148 : decode cX6_make 148 = .ok (.aload_n 2, 1) := dk_44 (dk_at dksX6_make_4 8 rfl rfl)
theorem dX6_make_149 : decode cX6_make 149 = .ok (.ldc 37, 2) := dk_18 37 (dk_at dksX6_make_4 9 rfl rfl)
theorem dX6_make_151 : decode cX6_make 151 = .ok (.invokevirtual 27, 3) := dk_182 0 27 (dk_at dksX6_make_4 11 rfl rfl)
theorem dX6_make_154 : decode cX6_make 154 = .ok (.ifCond .eq 64, 3) := dk_153 0 64 (dk_at dksX6_make_4 14 rfl rfl)
theorem dX6_make_157 : decode cX6_make 157 = .ok (.iconst 4, 1) := dk_7 (dk_at dksX6_make_4 17 rfl rfl)
theorem dX6_make_158 : decode cX6_make 158 = .ok (.istore_n 3, 1) := dk_62 (dk_at dksX6_make_4 18 rfl rfl)
theorem dX6_make_159 : decode cX6_make 159 = .ok (.goto 59, 3) := dk_167 0 59 (dk_at dksX6_make_4 19 rfl rfl)
theorem dX6_make_162 : decode cX6_make 162 = .ok (.aload_n 2, 1) := dk_44 (dk_at dksX6_make_4 22 rfl rfl)
theorem dX6_make_163 : decode cX6_make 163 = .ok (.ldc 39, 2) := dk_18 39 (dk_at dksX6_make_5 0 rfl rfl)
theorem dX6_make_165 : decode cX6_make 165 = .ok (.invokevirtual 27, 3) := dk_182 0 27 (dk_at dksX6_make_5 2 rfl rfl)
theorem dX6_make_168 : decode cX6_make 168 = .ok (.ifCond .eq 50, 3) := dk_153 0 50 (dk_at dksX6_make_5 5 rfl rfl)
theorem dX6_make_171 : decode cX6_make 171 = .ok (.iconst 5, 1) := dk_8 (dk_at dksX6_make_5 8 rfl rfl)
theorem dX6_make_172 : decode cX6_make 172 = .ok (.istore_n 3, 1) := dk_62 (dk_at dksX6_make_5 9 rfl rfl)
theorem dX6_make_173 : decode cX6_make 173 = .ok (.goto 45, 3) := dk_167 0 45 (dk_at dksX6_make_5 10 rfl rfl)
theorem dX6_make_176 : decode cX6_make 176 = .ok (.aload_n 2, 1) := dk_44 (dk_at dksX6_make_5 13 rfl rfl)
theorem dX6_make_177 : decode cX6_make 177 = .ok (.ldc 41, 2) := dk_18 41 (dk_at dksX6_make_5 14 rfl rfl)
theorem dX6_make_179 : decode cX6_make 179 = .ok (.invokevirtual 27, 3) := dk_182 0 27 (dk_at dksX6_make_5 16 rfl rfl)
theorem dX6_make_182 : decode cX6_make 182 = .ok (.ifCond .eq 36, 3) := dk_153 0 36 (dk_at dksX6_make_5 19 rfl rfl)
theorem dX6_make_185 : decode cX6_make 185 = .ok (.bipush 6, 2) := dk_16 6 (dk_at dksX6_make_5 22 rfl rfl)
theorem dX6_make_187 : decode cX6_make 187 = .ok (.istore_n 3, 1) := dk_62 (dk_at dksX6_make_6 0 rfl rfl)
theorem dX6_make_188 : decode cX6_make 188 = .ok (.goto 30, 3) := dk_167 0 30 (dk_at dksX6_make_6 1 rfl rfl)
theorem dX6_make_191 : decode cX6_make 191 = .ok (.aload_n 2, 1) := dk_44 (dk_at dksX6_make_6 4 rfl rfl)
theorem dX6_make_192 : decode cX6_make 192 = .ok (.ldc 43, 2) := dk_18 43 (dk_at dksX6_make_6 5 rfl rfl)
theorem dX6_make_194 : decode cX6_make 194 = .ok (.invokevirtual 27, 3) := dk_182 0 27 (dk_at dksX6_make_6 7 rfl rfl)
theorem dX6_make_197 : decode cX6_make 197 = .ok (.ifCond .eq 21, 3) := dk_153 0 21 (dk_at dksX6_make_6 10 rfl rfl)
theorem dX6_make_200 : decode cX6_make 200 = .ok (.bipush 7, 2) := dk_16 7 (dk_at dksX6_make_6 13 rfl rfl)
theorem dX6_make_202 : decode cX6_make 202 = .ok (.istore_n 3, 1) := dk_62 (dk_at dksX6_make_6 15 rfl rfl)
theorem dX6_make_203 : decode cX6_make 203 = .ok (.goto 15, 3) := dk_167 0 15 (dk_at dksX6_make_6 16 rfl rfl)
theorem dX6_make_206 : decode cX6_make 206 = .ok (.aload_n 2, 1) := dk_44 (dk_at dksX6_make_6 19 rfl rfl)
theorem dX6_make_207 : decode cX6_make 207 = .ok (.ldc 45, 2) := dk_18 45 (dk_at dksX6_make_6 20 rfl rfl)
theorem dX6_make_209 : decode cX6_make 209 = .ok (.invokevirtual 27, 3) := dk_182 0 27 (dk_at dksX6_make_7 0 rfl rfl)
theorem dX6_make_212 : decode cX6_make 212 = .ok (.ifCond .eq 6, 3) := dk_153 0 6 (dk_at dksX6_make_7 3 rfl rfl)
theorem dX6_make_215 : decode cX6_make 215 = .ok (.bipush 8, 2) := dk_16 8 (dk_at dksX6_make_7 6 rfl rfl)
theorem dX6_make_217 : decode cX6_make 217 = .ok (.istore_n 3, 1) := dk_62 (dk_at dksX6_make_7 8 rfl rfl)
theorem dX6_make_218 : decode cX6_make 218 = .ok (.iload_n 3, 1) := dk_29 (dk_at dksX6_make_7 9 rfl rfl)
theorem dX6_make_219 : decode cX6_make 219 = .ok (.tableswitch 184 0 8 #[49, 72, 89, 100, 111, 134, 151, 156, 167], 49) := by decide +kernel
theorem dX6_make_268 : decode cX6_make 268 = .ok (.aload_n 1, 1) := dk_43 (dk_at dksX6_make_9 0 rfl rfl)
theorem dX6_make_269 : decode cX6_make 269 = .ok (.aload_n 0, 1) := dk_42 (dk_at dksX6_make_9 1 rfl rfl)
theorem dX6_make_270 : decode cX6_make 270 = .ok (.getfield 15, 3) := dk_180 0 15 (dk_at dksX6_make_9 2 rfl rfl)
theorem dX6_make_273 : decode cX6_make 273 = .ok (.iconst 0, 1) := dk_3 (dk_at dksX6_make_9 5 rfl rfl)
theorem dX6_make_274 : decode cX6_make 274 = .ok (.iaload, 1) := dk_46 (dk_at dksX6_make_9 6 rfl rfl)
theorem dX6_make_275 : decode cX6_make 275 = .ok (.aload_n 0, 1) := dk_42 (dk_at dksX6_make_9 7 rfl rfl)
theorem dX6_make_276 : decode cX6_make 276 = .ok (.getfield 15, 3) := dk_180 0 15 (dk_at dksX6_make_9 8 rfl rfl)
theorem dX6_make_279 : decode cX6_make 279 = .ok (.iconst 1, 1) := dk_4 (dk_at dksX6_make_9 11 rfl rfl)
theorem dX6_make_280 : decode cX6_make 280 = .ok (.iaload, 1) := dk_46 (dk_at dksX6_make_9 12 rfl rfl)
theorem dX6_make_281 : decode cX6_make 281 = .ok (.aload_n 0, 1) := dk_42 (dk_at dksX6_make_9 13 rfl rfl)
theorem dX6_make_282 : decode cX6_make 282 = .ok (.getfield 15, 3) := dk_180 0 15 (dk_at dksX6_make_9 14 rfl rfl)
theorem dX6_make_285 : decode cX6_make 285 = .ok (.iconst 2, 1) := dk_5 (dk_at dksX6_make_9 17 rfl rfl)
theorem dX6_make_286 : decode cX6_make 286 = .ok (.iaload, 1) := dk_46 (dk_at dksX6_make_9 18 rfl rfl)
theorem dX6_make_287 : decode cX6_make 287 = .ok (.invokevirtual 47, 3) := dk_182 0 47 (dk_at dksX6_make_9 19 rfl rfl)
theorem dX6_make_290 : decode cX6_make 290 = .ok (.ireturn, 1) := dk_172 (dk_at dksX6_make_9 22 rfl rfl)
theorem dX6_make_291 : decode cX6_make 291 = .ok (.aload_n 1, 1) := dk_43 (dk_at dksX6_make_9 23 rfl rfl)
theorem dX6_make_292 : decode cX6_make 292 = .ok (.aload_n 0, 1) := dk_42 (dk_at dksX6_make_10 0 rfl rfl)
theorem dX6_make_293 : decode cX6_make 293 = .ok (.getfield 15, 3) := dk_180 0 15 (dk_at dksX6_make_10 1 rfl rfl)
theorem dX6_make_296 : decode cX6_make 296 = .ok (.iconst 0, 1) := dk_3 (dk_at dksX6_make_10 4 rfl rfl)
theorem dX6_make_297 : decode cX6_make 297 = .ok (.iaload, 1) := dk_46 (dk_at dksX6_make_10 5 rfl rfl)
theorem dX6_make_298 : decode cX6_make 298 = .ok (.aload_n 0, 1) := dk_42 (dk_at dksX6_make_10 6 rfl rfl)
theorem dX6_make_299 : decode cX6_make 299 = .ok (.getfield 15, 3) := dk_180 0 15 (dk_at dksX6_make_10 7 rfl rfl)
theorem dX6_make_302 : decode cX6_make 302 = .ok (.iconst 1, 1) := dk_4 (dk_at dksX6_make_10 10 rfl rfl)
theorem dX6_make_303 : decode cX6_make 303 = .ok (.iaload, 1) := dk_46 (dk_at dksX6_make_10 11 rfl rfl)
theorem dX6_make_304 : decode cX6_make 304 = .ok (.invokevirtual 53, 3) := dk_182 0 53 (dk_at dksX6_make_10 12 rfl rfl)
theorem dX6_make_307 : decode cX6_make 307 = .ok (.ireturn, 1) := dk_172 (dk_at dksX6_make_10 15 rfl rfl)
theorem dX6_make_308 : decode cX6_make 308 = .ok (.aload_n 1, 1) := dk_43 (dk_at dksX6_make_10 16 rfl rfl)
theorem dX6_make_309 : decode cX6_make 309 = .ok (.aload_n 0, 1) := dk_42 (dk_at dksX6_make_10 17 rfl rfl)
theorem dX6_make_310 : decode cX6_make 310 = .ok (.getfield 15, 3) := dk_180 0 15 (dk_at dksX6_make_10 18 rfl rfl)
theorem dX6_make_313 : decode cX6_make 313 = .ok (.iconst 0, 1) := dk_3 (dk_at dksX6_make_10 21 rfl rfl)
theorem dX6_make_314 : decode cX6_make 314 = .ok (.iaload, 1) := dk_46 (dk_at dksX6_make_10 22 rfl rfl)
theorem dX6_make_315 : decode cX6_make 315 = .ok (.invokevirtual 57, 3) := dk_182 0 57 (dk_at dksX6_make_11 0 rfl rfl)
theorem dX6_make_318 : decode cX6_make 318 = .ok (.ireturn, 1) := dk_172 (dk_at dksX6_make_11 3 rfl rfl)
theorem dX6_make_319 : decode cX6_make 319 = .ok (.aload_n 1, 1) := dk_43 (dk_at dksX6_make_11 4 rfl rfl)
theorem dX6_make_320 : decode cX6_make 320 = .ok (.aload_n 0, 1) := dk_42 (dk_at dksX6_make_11 5 rfl rfl)
theorem dX6_make_321 : decode cX6_make 321 = .ok (.getfield 15, 3) := dk_180 0 15 (dk_at dksX6_make_11 6 rfl rfl)
theorem dX6_make_324 : decode cX6_make 324 = .ok (.iconst 0, 1) := dk_3 (dk_at dksX6_make_11 9 rfl rfl)
theorem dX6_make_325 : decode cX6_make 325 = .ok (.iaload, 1) := dk_46 (dk_at dksX6_make_11 10 rfl rfl)
theorem dX6_make_326 : decode cX6_make 326 = .ok (.invokevirtual 60, 3) := dk_182 0 60 (dk_at dksX6_make_11 11 rfl rfl)
theorem dX6_make_329 : decode cX6_make 329 = .ok (.ireturn, 1) := dk_172 (dk_at dksX6_make_11 14 rfl rfl)
theorem dX6_make_330 : decode cX6_make 330 = .ok (.aload_n 1, 1) := dk_43 (dk_at dksX6_make_11 15 rfl rfl)
theorem dX6_make_331 : decode cX6_make 331 = .ok (.aload_n 0, 1) := dk_42 (dk_at dksX6_make_11 16 rfl rfl)
theorem dX6_make_332 : decode cX6_make 332 = .ok (.getfield 15, 3) := dk_180 0 15 (dk_at dksX6_make_11 17 rfl rfl)
theorem dX6_make_335 : decode cX6_make 335 = .ok (.iconst 0, 1) := dk_3 (dk_at dksX6_make_11 20 rfl rfl)
theorem dX6_make_336 : decode cX6_make 336 = .ok (.iaload, 1) := dk_46 (dk_at dksX6_make_11 21 rfl rfl)
theorem dX6_make_337 : decode cX6_make 337 = .ok (.aload_n 0, 1) := dk_42 (dk_at dksX6_make_11 22 rfl rfl)
theorem dX6_make_338 : decode cX6_make 338 = .ok (.getfield 15, 3) := dk_180 0 15 (dk_at dksX6_make_12 0 rfl rfl)
theorem dX6_make_341 : decode cX6_make 341 = .ok (.iconst 1, 1) := dk_4 (dk_at dksX6_make_12 3 rfl rfl)
theorem dX6_make_342 : decode cX6_make 342 = .ok (.iaload, 1) := dk_46 (dk_at dksX6_make_12 4 rfl rfl)
theorem dX6_make_343 : decode cX6_make 343 = .ok (.aload_n 0, 1) := dk_42 (dk_at dksX6_make_12 5 rfl rfl)
theorem dX6_make_344 : decode cX6_make 344 = .ok (.getfield 15, 3) := dk_180 0 15 (dk_at dksX6_make_12 6 rfl rfl)
theorem dX6_make_347 : decode cX6_make 347 = .ok (.iconst 2, 1) := dk_5 (dk_at dksX6_make_12 9 rfl rfl)
theorem dX6_make_348 : decode cX6_make 348 = .ok (.iaload, 1) := dk_46 (dk_at dksX6_make_12 10 rfl rfl)
theorem dX6_make_349 : decode cX6_make 349 = .ok (.invokevirtual 62, 3) := dk_182 0 62 (dk_at dksX6_make_12 11 rfl rfl)
theorem dX6_make_352 : decode cX6_make 352 = .ok (.ireturn, 1) := dk_172 (dk_at dksX6_make_12 14 rfl rfl)
theorem dX6_make_353 : decode cX6_make 353 = .ok (.aload_n 1, 1) := dk_43 (dk_at dksX6_make_12 15 rfl rfl)
theorem dX6_make_354 : decode cX6_make 354 = .ok (.aload_n 0, 1) := dk_42 (dk_at dksX6_make_12 16 rfl rfl)
theorem dX6_make_355 : decode cX6_make 355 = .ok (.getfield 15, 3) := dk_180 0 15 (dk_at dksX6_make_12 17 rfl rfl)
theorem dX6_make_358 : decode cX6_make 358 = .ok (.iconst 0, 1) := dk_3 (dk_at dksX6_make_12 20 rfl rfl)
theorem dX6_make_359 : decode cX6_make 359 = .ok (.iaload, 1) := dk_46 (dk_at dksX6_make_12 21 rfl rfl)
theorem dX6_make_360 : decode cX6_make 360 = .ok (.aload_n 0, 1) := dk_42 (dk_at dksX6_make_12 22 rfl rfl)
theorem dX6_make_361 : decode cX6_make 361 = .ok (.getfield 15, 3) := dk_180 0 15 (dk_at dksX6_make_13 0 rfl rfl)
theorem dX6_make_364 : decode cX6_make 364 = .ok (.iconst 1, 1) := dk_4 (dk_at dksX6_make_13 3 rfl rfl)
theorem dX6_make_365 : decode cX6_make 365 = .ok (.iaload, 1) := dk_46 (dk_at dksX6_make_13 4 rfl rfl)
theorem dX6_make_366 : decode cX6_make 366 = .ok (.invokevirtual 64, 3) := dk_182 0 64 (dk_at dksX6_make_13 5 rfl rfl)
theorem dX6_make_369 : decode cX6_make 369 = .ok (.ireturn, 1) := dk_172 (dk_at dksX6_make_13 8 rfl rfl)
theorem dX6_make_370 : decode cX6_make 370 = .ok (.aload_n 1, 1) := dk_43 (dk_at dksX6_make_13 9 rfl rfl)
theorem dX6_make_371 : decode cX6_make 371 = .ok (.invokevirtual 66, 3) := dk_182 0 66 (dk_at dksX6_make_13 10 rfl rfl)
theorem dX6_make_374 : decode cX6_make 374 = .ok (.ireturn, 1) := dk_172 (dk_at dksX6_make_13 13 rfl rfl)
theorem dX6_make_375 : decode cX6_make 375 = .ok (.aload_n 1, 1) := dk_43 (dk_at dksX6_make_13 14 rfl rfl)
theorem dX6_make_376 : decode cX6_make 376 = .ok (.aload_n 0, 1) := dk_42 (dk_at dksX6_make_13 15 rfl rfl)
theorem dX6_make_377 : decode cX6_make 377 = .ok (.getfield 15, 3) := dk_180 0 15 (dk_at dksX6_make_13 16 rfl rfl)
theorem dX6_make_380 : decode cX6_make 380 = .ok (.iconst 0, 1) := dk_3 (dk_at dksX6_make_13 19 rfl rfl)
theorem dX6_make_381 : decode cX6_make 381 = .ok (.iaload, 1) := dk_46 (dk_at dksX6_make_13 20 rfl rfl)
theorem dX6_make_382 : decode cX6_make 382 = .ok (.invokevirtual 68, 3) := dk_182 0 68 (dk_at dksX6_make_13 21 rfl rfl)
theorem dX6_make_385 : decode cX6_make 385 = .ok (.ireturn, 1) := dk_172 (dk_at dksX6_make_14 0 rfl rfl)
theorem dX6_make_386 : decode cX6_make 386 = .ok (.aload_n 1, 1) := dk_43 (dk_at dksX6_make_14 1 rfl rfl)
theorem dX6_make_387 : decode cX6_make 387 = .ok (.aload_n 0, 1) := dk_42 (dk_at dksX6_make_14 2 rfl rfl)
theorem dX6_make_388 : decode cX6_make 388 = .ok (.getfield 15, 3) := dk_180 0 15 (dk_at dksX6_make_14 3 rfl rfl)
theorem dX6_make_391 : decode cX6_make 391 = .ok (.iconst 0, 1) := dk_3 (dk_at dksX6_make_14 6 rfl rfl)
theorem dX6_make_392 : decode cX6_make 392 = .ok (.iaload, 1) := dk_46 (dk_at dksX6_make_14 7 rfl rfl)
theorem dX6_make_393 : decode cX6_make 393 = .ok (.aload_n 0, 1) := dk_42 (dk_at dksX6_make_14 8 rfl rfl)
theorem dX6_make_394 : decode cX6_make 394 = .ok (.getfield 15, 3) := dk_180 0 15 (dk_at dksX6_make_14 9 rfl rfl)
theorem dX6_make_397 : decode cX6_make 397 = .ok (.iconst 1, 1) := dk_4 (dk_at dksX6_make_14 12 rfl rfl)
theorem dX6_make_398 : decode cX6_make 398 = .ok (.iaload, 1) := dk_46 (dk_at dksX6_make_14 13 rfl rfl)
theorem dX6_make_399 : decode cX6_make 399 = .ok (.invokevirtual 70, 3) := dk_182 0 70 (dk_at dksX6_make_14 14 rfl rfl)
theorem dX6_make_402 : decode cX6_make 402 = .ok (.ireturn, 1) := dk_172 (dk_at dksX6_make_14 17 rfl rfl)
theorem dX6_make_403 : decode cX6_make 403 = .ok (.aload_n 1, 1) := dk_43 (dk_at dksX6_make_14 18 rfl rfl)
theorem dX6_make_404 : decode cX6_make 404 = .ok (.aload_n 0, 1) := dk_42 (dk_at dksX6_make_14 19 rfl rfl)
theorem dX6_make_405 : decode cX6_make 405 = .ok (.getfield 15, 3) := dk_180 0 15 (dk_at dksX6_make_14 20 rfl rfl)
theorem dX6_make_408 : decode cX6_make 408 = .ok (.iconst 0, 1) := dk_3 (dk_at dksX6_make_14 23 rfl rfl)
theorem dX6_make_409 : decode cX6_make 409 = .ok (.iaload, 1) := dk_46 (dk_at dksX6_make_15 0 rfl rfl)
theorem dX6_make_410 : decode cX6_make 410 = .ok (.invokevirtual 72, 3) := dk_182 0 72 (dk_at dksX6_make_15 1 rfl rfl)
theorem dX6_make_413 : decode cX6_make 413 = .ok (.ireturn, 1) := dk_172 (dk_at dksX6_make_15 4 rfl rfl)
abbrev cX6_numbers : ByteArray := prog_6_method_3_code
def yX6_numbers : MethodName := ⟨RX6, "numbers", "(Ljava/lang/String;)I"⟩
def dkwX6_numbers_9 : List UInt8 := [3, 172, 4, 172, 5, 172, 6, 172, 2, 172]
abbrev dktX6_numbers_9 : List UInt8 := dkwX6_numbers_9 ++ []
def dkwX6_numbers_8 : List UInt8 := [170, 0, 0, 0, 57, 0, 0, 0, 0, 0, 0, 0, 8, 0, 0, 0, 49, 0, 0, 0, 51, 0, 0, 0, 51, 0, 0, 0, 51, 0, 0, 0, 51, 0, 0, 0, 53, 0, 0, 0, 53, 0, 0, 0, 55, 0, 0, 0, 55]
abbrev dktX6_numbers_8 : List UInt8 := dkwX6_numbers_8 ++ dktX6_numbers_9
def dkwX6_numbers_7 : List UInt8 := [182, 0, 27, 153, 0, 6, 16, 8, 61, 28]
abbrev dktX6_numbers_7 : List UInt8 := dkwX6_numbers_7 ++ dktX6_numbers_8
def dkwX6_numbers_6 : List UInt8 := [61, 167, 0, 30, 43, 18, 25, 182, 0, 27, 153, 0, 21, 16, 7, 61, 167, 0, 15, 43, 18, 37]
abbrev dktX6_numbers_6 : List UInt8 := dkwX6_numbers_6 ++ dktX6_numbers_7
def dkwX6_numbers_5 : List UInt8 := [18, 31, 182, 0, 27, 153, 0, 50, 8, 61, 167, 0, 45, 43, 18, 45, 182, 0, 27, 153, 0, 36, 16, 6]
abbrev dktX6_numbers_5 : List UInt8 := dkwX6_numbers_5 ++ dktX6_numbers_6
def dkwX6_numbers_4 : List UInt8 := [153, 0, 78, 6, 61, 167, 0, 73, 43, 18, 75, 182, 0, 27, 153, 0, 64, 7, 61, 167, 0, 59, 43]
abbrev dktX6_numbers_4 : List UInt8 := dkwX6_numbers_4 ++ dktX6_numbers_5
def dkwX6_numbers_3 : List UInt8 := [61, 167, 0, 101, 43, 18, 35, 182, 0, 27, 153, 0, 92, 5, 61, 167, 0, 87, 43, 18, 43, 182, 0, 27]
abbrev dktX6_numbers_3 : List UInt8 := dkwX6_numbers_3 ++ dktX6_numbers_4
def dkwX6_numbers_2 : List UInt8 := [43, 18, 41, 182, 0, 27, 153, 0, 120, 3, 61, 167, 0, 115, 43, 18, 33, 182, 0, 27, 153, 0, 106, 4]
abbrev dktX6_numbers_2 : List UInt8 := dkwX6_numbers_2 ++ dktX6_numbers_3
def dkwX6_numbers_1 : List UInt8 := [171, 0, 0, 0, 0, 0, 0, 210, 0, 0, 0, 9, 202, 3, 17, 75, 0, 0, 0, 126, 202, 213, 95, 178, 0, 0, 0, 112, 0, 1, 133, 60, 0, 0, 0, 168, 0, 1, 149, 7, 0, 0, 0, 154, 0, 51, 59, 209, 0, 0, 0, 198, 5, 205, 6, 186, 0, 0, 0, 140, 6, 33, 78, 183, 0, 0, 0, 98, 6, 122, 177, 142, 0, 0, 0, 84, 6, 133, 93, 91, 0, 0, 0, 183]
abbrev dktX6_numbers_1 : List UInt8 := dkwX6_numbers_1 ++ dktX6_numbers_2
def dkwX6_numbers_0 : List UInt8 := [42, 76, 2, 61, 43, 182, 0, 19]
abbrev dktX6_numbers_0 : List UInt8 := dkwX6_numbers_0 ++ dktX6_numbers_1
theorem dksX6_numbers_0 : cX6_numbers.data.toList.drop 0 = dktX6_numbers_0 := by decide +kernel
theorem dksX6_numbers_1 : cX6_numbers.data.toList.drop 8 = dktX6_numbers_1 := dk_seg dksX6_numbers_0 8 rfl rfl
theorem dksX6_numbers_2 : cX6_numbers.data.toList.drop 92 = dktX6_numbers_2 := dk_seg dksX6_numbers_1 84 rfl rfl
theorem dksX6_numbers_3 : cX6_numbers.data.toList.drop 116 = dktX6_numbers_3 := dk_seg dksX6_numbers_2 24 rfl rfl
theorem dksX6_numbers_4 : cX6_numbers.data.toList.drop 140 = dktX6_numbers_4 := dk_seg dksX6_numbers_3 24 rfl rfl
theorem dksX6_numbers_5 : cX6_numbers.data.toList.drop 163 = dktX6_numbers_5 := dk_seg dksX6_numbers_4 23 rfl rfl
theorem dksX6_numbers_6 : cX6_numbers.data.toList.drop 187 = dktX6_numbers_6 := dk_seg dksX6_numbers_5 24 rfl rfl
theorem dksX6_numbers_7 : cX6_numbers.data.toList.drop 209 = dktX6_numbers_7 := dk_seg dksX6_numbers_6 22 rfl rfl
theorem dksX6_numbers_8 : cX6_numbers.data.toList.drop 219 = dktX6_numbers_8 := dk_seg dksX6_numbers_7 10 rfl rfl
theorem dksX6_numbers_9 : cX6_numbers.data.toList.drop 268 = dktX6_numbers_9 := dk_seg dksX6_numbers_8 49 rfl rfl
theorem dX6_numbers_0 : decode cX6_numbers 0 = .ok (.aload_n 0, 1) := dk_42 (dk_at dksX6_numbers_0 0 rfl rfl)
theorem dX6_numbers_1 : decode cX6_numbers 1 = .ok (.astore_n 1, 1) := dk_76 (dk_at dksX6_numbers_0 1 rfl rfl)
theorem dX6_numbers_2 : decode cX6_numbers 2 = .ok (.iconst (-1), 1) := dk_2 (dk_at dksX6_numbers_0 2 rfl rfl)
theorem dX6_numbers_3 : decode cX6_numbers 3 = .ok (.istore_n 2, 1) := dk_61 (dk_at dksX6_numbers_0 3 rfl rfl)
theorem dX6_numbers_4 : decode cX6_numbers 4 = .ok (.aload_n 1, 1) := dk_43 (dk_at dksX6_numbers_0 4 rfl rfl)
theorem dX6_numbers_5 : decode cX6_numbers 5 = .ok (.invokevirtual 19, 3) := dk_182 0 19 (dk_at dksX6_numbers_0 5 rfl rfl)
theorem dX6_numbers_8 : decode cX6_numbers 8 = .ok (.lookupswitch 210 #[(-905768629, 126), (-891985998, 112), (99644, 168), (103687, 154), (3357649, 198), (97322682, 140), (102846135, 98), (108704142, 84), (109403483, 183)], 84) := by decide +kernel
theorem dX6_numbers_92 : decode cX6_numbers 92 = .ok (.aload_n 1, 1) := dk_43 (dk_at dksX6_numbers_2 0 rfl rfl)
theorem dX6_numbers_93 : decode cX6_numbers 93 = .ok (.ldc 41, 2) := dk_18 41 (dk_at dksX6_numbers_2 1 rfl rfl)
theorem dX6_numbers_95 : decode cX6_numbers 95 = .ok (.invokevirtual 27, 3) := dk_182 0 27 (dk_at dksX6_numbers_2 3 rfl rfl)
theorem dX6_numbers_98 : decode cX6_numbers 98 = .ok (.ifCond .eq 120, 3) := dk_153 0 120 (dk_at dksX6_numbers_2 6 rfl rfl)
theorem dX6_numbers_101 : decode cX6_numbers 101 = .ok (.iconst 0, 1) := dk_3 (dk_at dksX6_numbers_2 9 rfl rfl)
theorem dX6_numbers_102 : decode cX6_numbers 102 = .ok (.istore_n 2, 1) := dk_61 (dk_at dksX6_numbers_2 10 rfl rfl)
theorem dX6_numbers_103 : decode cX6_numbers 103 = .ok (.goto 115, 3) := dk_167 0 115 (dk_at dksX6_numbers_2 11 rfl rfl)
theorem dX6_numbers_106 : decode cX6_numbers 106 = .ok (.aload_n 1, 1) := dk_43 (dk_at dksX6_numbers_2 14 rfl rfl)
theorem dX6_numbers_107 : decode cX6_numbers 107 = .ok (.ldc 33, 2) := dk_18 33 (dk_at dksX6_numbers_2 15 rfl rfl)
theorem dX6_numbers_109 : decode cX6_numbers 109 = .ok (.invokevirtual 27, 3) := dk_182 0 27 (dk_at dksX6_numbers_2 17 rfl rfl)
theorem dX6_numbers_112 : decode cX6_numbers 112 = .ok (.ifCond .eq 106, 3) := dk_153 0 106 (dk_at dksX6_numbers_2 20 rfl rfl)
theorem dX6_numbers_115 : decode cX6_numbers 115 = .ok (.iconst 1, 1) := dk_4 (dk_at dksX6_numbers_2 23 rfl rfl)
theorem dX6_numbers_116 : decode cX6_numbers 116 = .ok (.istore_n 2, 1) := dk_61 (dk_at dksX6_numbers_3 0 rfl rfl)
theorem dX6_numbers_117 : decode cX6_numbers 117 = .ok (.goto 101, 3) := dk_167 0 101 (dk_at dksX6_numbers_3 1 rfl rfl)
theorem dX6_numbers_120 : decode cX6_numbers 120 = .ok (.aload_n 1, 1) := dk_43 (dk_at dksX6_numbers_3 4 rfl rfl)
theorem dX6_numbers_121 : decode cX6_numbers 121 = .ok (.ldc 35, 2) := dk_18 35 (dk_at dksX6_numbers_3 5 rfl rfl)
theorem dX6_numbers_123 : decode cX6_numbers 123 = .ok (.invokevirtual 27, 3) := dk_182 0 27 (dk_at dksX6_numbers_3 7 rfl rfl)
theorem dX6_numbers_126 : decode cX6_numbers 126 = .ok (.ifCond .eq 92, 3) := dk_153 0 92 (dk_at dksX6_numbers_3 10 rfl rfl)
theorem dX6_numbers_129 : decode cX6_numbers 129 = .ok (.iconst 2, 1) := dk_5 (dk_at dksX6_numbers_3 13 rfl rfl)
theorem dX6_numbers_130 : decode cX6_numbers 130 = .ok (.istore_n 2, 1) := dk_61 (dk_at dksX6_numbers_3 14 rfl rfl)
theorem dX6_numbers_131 : decode cX6_numbers 131 = .ok (.goto 87, 3) := dk_167 0 87 (dk_at dksX6_numbers_3 15 rfl rfl)
theorem dX6_numbers_134 : decode cX6_numbers 134 = .ok (.aload_n 1, 1) := dk_43 (dk_at dksX6_numbers_3 18 rfl rfl)
theorem dX6_numbers_135 : decode cX6_numbers 135 = .ok (.ldc 43, 2) := dk_18 43 (dk_at dksX6_numbers_3 19 rfl rfl)
theorem dX6_numbers_137 : decode cX6_numbers 137 = .ok (.invokevirtual 27, 3) := dk_182 0 27 (dk_at dksX6_numbers_3 21 rfl rfl)
theorem dX6_numbers_140 : decode cX6_numbers 140 = .ok (.ifCond .eq 78, 3) := dk_153 0 78 (dk_at dksX6_numbers_4 0 rfl rfl)
theorem dX6_numbers_143 : decode cX6_numbers 143 = .ok (.iconst 3, 1) := dk_6 (dk_at dksX6_numbers_4 3 rfl rfl)
theorem dX6_numbers_144 : decode cX6_numbers 144 = .ok (.istore_n 2, 1) := dk_61 (dk_at dksX6_numbers_4 4 rfl rfl)
theorem dX6_numbers_145 : decode cX6_numbers 145 = .ok (.goto 73, 3) := dk_167 0 73 (dk_at dksX6_numbers_4 5 rfl rfl)
theorem dX6_numbers_148 : decode cX6_numbers 148 = .ok (.aload_n 1, 1) := dk_43 (dk_at dksX6_numbers_4 8 rfl rfl)
theorem dX6_numbers_149 : decode cX6_numbers 149 = .ok (.ldc 75, 2) := dk_18 75 (dk_at dksX6_numbers_4 9 rfl rfl)
theorem dX6_numbers_151 : decode cX6_numbers 151 = .ok (.invokevirtual 27, 3) := dk_182 0 27 (dk_at dksX6_numbers_4 11 rfl rfl)
theorem dX6_numbers_154 : decode cX6_numbers 154 = .ok (.ifCond .eq 64, 3) := dk_153 0 64 (dk_at dksX6_numbers_4 14 rfl rfl)
theorem dX6_numbers_157 : decode cX6_numbers 157 = .ok (.iconst 4, 1) := dk_7 (dk_at dksX6_numbers_4 17 rfl rfl)
theorem dX6_numbers_158 : decode cX6_numbers 158 = .ok (.istore_n 2, 1) := dk_61 (dk_at dksX6_numbers_4 18 rfl rfl)
theorem dX6_numbers_159 : decode cX6_numbers 159 = .ok (.goto 59, 3) := dk_167 0 59 (dk_at dksX6_numbers_4 19 rfl rfl)
theorem dX6_numbers_162 : decode cX6_numbers 162 = .ok (.aload_n 1, 1) := dk_43 (dk_at dksX6_numbers_4 22 rfl rfl)
theorem dX6_numbers_163 : decode cX6_numbers 163 = .ok (.ldc 31, 2) := dk_18 31 (dk_at dksX6_numbers_5 0 rfl rfl)
theorem dX6_numbers_165 : decode cX6_numbers 165 = .ok (.invokevirtual 27, 3) := dk_182 0 27 (dk_at dksX6_numbers_5 2 rfl rfl)
theorem dX6_numbers_168 : decode cX6_numbers 168 = .ok (.ifCond .eq 50, 3) := dk_153 0 50 (dk_at dksX6_numbers_5 5 rfl rfl)
theorem dX6_numbers_171 : decode cX6_numbers 171 = .ok (.iconst 5, 1) := dk_8 (dk_at dksX6_numbers_5 8 rfl rfl)
theorem dX6_numbers_172 : decode cX6_numbers 172 = .ok (.istore_n 2, 1) := dk_61 (dk_at dksX6_numbers_5 9 rfl rfl)
theorem dX6_numbers_173 : decode cX6_numbers 173 = .ok (.goto 45, 3) := dk_167 0 45 (dk_at dksX6_numbers_5 10 rfl rfl)
theorem dX6_numbers_176 : decode cX6_numbers 176 = .ok (.aload_n 1, 1) := dk_43 (dk_at dksX6_numbers_5 13 rfl rfl)
theorem dX6_numbers_177 : decode cX6_numbers 177 = .ok (.ldc 45, 2) := dk_18 45 (dk_at dksX6_numbers_5 14 rfl rfl)
theorem dX6_numbers_179 : decode cX6_numbers 179 = .ok (.invokevirtual 27, 3) := dk_182 0 27 (dk_at dksX6_numbers_5 16 rfl rfl)
theorem dX6_numbers_182 : decode cX6_numbers 182 = .ok (.ifCond .eq 36, 3) := dk_153 0 36 (dk_at dksX6_numbers_5 19 rfl rfl)
theorem dX6_numbers_185 : decode cX6_numbers 185 = .ok (.bipush 6, 2) := dk_16 6 (dk_at dksX6_numbers_5 22 rfl rfl)
theorem dX6_numbers_187 : decode cX6_numbers 187 = .ok (.istore_n 2, 1) := dk_61 (dk_at dksX6_numbers_6 0 rfl rfl)
theorem dX6_numbers_188 : decode cX6_numbers 188 = .ok (.goto 30, 3) := dk_167 0 30 (dk_at dksX6_numbers_6 1 rfl rfl)
theorem dX6_numbers_191 : decode cX6_numbers 191 = .ok (.aload_n 1, 1) := dk_43 (dk_at dksX6_numbers_6 4 rfl rfl)
theorem dX6_numbers_192 : decode cX6_numbers 192 = .ok (.ldc 25, 2) := dk_18 25 (dk_at dksX6_numbers_6 5 rfl rfl)
theorem dX6_numbers_194 : decode cX6_numbers 194 = .ok (.invokevirtual 27, 3) := dk_182 0 27 (dk_at dksX6_numbers_6 7 rfl rfl)
theorem dX6_numbers_197 : decode cX6_numbers 197 = .ok (.ifCond .eq 21, 3) := dk_153 0 21 (dk_at dksX6_numbers_6 10 rfl rfl)
theorem dX6_numbers_200 : decode cX6_numbers 200 = .ok (.bipush 7, 2) := dk_16 7 (dk_at dksX6_numbers_6 13 rfl rfl)
theorem dX6_numbers_202 : decode cX6_numbers 202 = .ok (.istore_n 2, 1) := dk_61 (dk_at dksX6_numbers_6 15 rfl rfl)
theorem dX6_numbers_203 : decode cX6_numbers 203 = .ok (.goto 15, 3) := dk_167 0 15 (dk_at dksX6_numbers_6 16 rfl rfl)
theorem dX6_numbers_206 : decode cX6_numbers 206 = .ok (.aload_n 1, 1) := dk_43 (dk_at dksX6_numbers_6 19 rfl rfl)
theorem dX6_numbers_207 : decode cX6_numbers 207 = .ok (.ldc 37, 2) := dk_18 37 (dk_at dksX6_numbers_6 20 rfl rfl)
theorem dX6_numbers_209 : decode cX6_numbers 209 = .ok (.invokevirtual 27, 3) := dk_182 0 27 (dk_at dksX6_numbers_7 0 rfl rfl)
theorem dX6_numbers_212 : decode cX6_numbers 212 = .ok (.ifCond .eq 6, 3) := dk_153 0 6 (dk_at dksX6_numbers_7 3 rfl rfl)
theorem dX6_numbers_215 : decode cX6_numbers 215 = .ok (.bipush 8, 2) := dk_16 8 (dk_at dksX6_numbers_7 6 rfl rfl)
theorem dX6_numbers_217 : decode cX6_numbers 217 = .ok (.istore_n 2, 1) := dk_61 (dk_at dksX6_numbers_7 8 rfl rfl)
theorem dX6_numbers_218 : decode cX6_numbers 218 = .ok (.iload_n 2, 1) := dk_28 (dk_at dksX6_numbers_7 9 rfl rfl)
theorem dX6_numbers_219 : decode cX6_numbers 219 = .ok (.tableswitch 57 0 8 #[49, 51, 51, 51, 51, 53, 53, 55, 55], 49) := by decide +kernel
theorem dX6_numbers_268 : decode cX6_numbers 268 = .ok (.iconst 0, 1) := dk_3 (dk_at dksX6_numbers_9 0 rfl rfl)
theorem dX6_numbers_269 : decode cX6_numbers 269 = .ok (.ireturn, 1) := dk_172 (dk_at dksX6_numbers_9 1 rfl rfl)
theorem dX6_numbers_270 : decode cX6_numbers 270 = .ok (.iconst 1, 1) := dk_4 (dk_at dksX6_numbers_9 2 rfl rfl)
theorem dX6_numbers_271 : decode cX6_numbers 271 = .ok (.ireturn, 1) := dk_172 (dk_at dksX6_numbers_9 3 rfl rfl)
theorem dX6_numbers_272 : decode cX6_numbers 272 = .ok (.iconst 2, 1) := dk_5 (dk_at dksX6_numbers_9 4 rfl rfl)
theorem dX6_numbers_273 : decode cX6_numbers 273 = .ok (.ireturn, 1) := dk_172 (dk_at dksX6_numbers_9 5 rfl rfl)
theorem dX6_numbers_274 : decode cX6_numbers 274 = .ok (.iconst 3, 1) := dk_6 (dk_at dksX6_numbers_9 6 rfl rfl)
theorem dX6_numbers_275 : decode cX6_numbers 275 = .ok (.ireturn, 1) := dk_172 (dk_at dksX6_numbers_9 7 rfl rfl)
theorem dX6_numbers_276 : decode cX6_numbers 276 = .ok (.iconst (-1), 1) := dk_2 (dk_at dksX6_numbers_9 8 rfl rfl)
theorem dX6_numbers_277 : decode cX6_numbers 277 = .ok (.ireturn, 1) := dk_172 (dk_at dksX6_numbers_9 9 rfl rfl)
abbrev cX6_begins : ByteArray := prog_6_method_4_code
def yX6_begins : MethodName := ⟨RX6, "begins", "(Ljava/lang/String;)Z"⟩
def dkwX6_begins_1 : List UInt8 := [182, 0, 91, 172]
abbrev dktX6_begins_1 : List UInt8 := dkwX6_begins_1 ++ []
def dkwX6_begins_0 : List UInt8 := [18, 76, 76, 43, 187, 0, 78, 89, 183, 0, 80, 18, 81, 182, 0, 83, 42, 182, 0, 83, 182, 0, 87]
abbrev dktX6_begins_0 : List UInt8 := dkwX6_begins_0 ++ dktX6_begins_1
theorem dksX6_begins_0 : cX6_begins.data.toList.drop 0 = dktX6_begins_0 := by decide +kernel
theorem dksX6_begins_1 : cX6_begins.data.toList.drop 23 = dktX6_begins_1 := dk_seg dksX6_begins_0 23 rfl rfl
theorem dX6_begins_0 : decode cX6_begins 0 = .ok (.ldc 76, 2) := dk_18 76 (dk_at dksX6_begins_0 0 rfl rfl)
theorem dX6_begins_2 : decode cX6_begins 2 = .ok (.astore_n 1, 1) := dk_76 (dk_at dksX6_begins_0 2 rfl rfl)
theorem dX6_begins_3 : decode cX6_begins 3 = .ok (.aload_n 1, 1) := dk_43 (dk_at dksX6_begins_0 3 rfl rfl)
theorem dX6_begins_4 : decode cX6_begins 4 = .ok (.new 78, 3) := dk_187 0 78 (dk_at dksX6_begins_0 4 rfl rfl)
theorem dX6_begins_7 : decode cX6_begins 7 = .ok (.dup, 1) := dk_89 (dk_at dksX6_begins_0 7 rfl rfl)
theorem dX6_begins_8 : decode cX6_begins 8 = .ok (.invokespecial 80, 3) := dk_183 0 80 (dk_at dksX6_begins_0 8 rfl rfl)
theorem dX6_begins_11 : decode cX6_begins 11 = .ok (.ldc 81, 2) := dk_18 81 (dk_at dksX6_begins_0 11 rfl rfl)
theorem dX6_begins_13 : decode cX6_begins 13 = .ok (.invokevirtual 83, 3) := dk_182 0 83 (dk_at dksX6_begins_0 13 rfl rfl)
theorem dX6_begins_16 : decode cX6_begins 16 = .ok (.aload_n 0, 1) := dk_42 (dk_at dksX6_begins_0 16 rfl rfl)
theorem dX6_begins_17 : decode cX6_begins 17 = .ok (.invokevirtual 83, 3) := dk_182 0 83 (dk_at dksX6_begins_0 17 rfl rfl)
theorem dX6_begins_20 : decode cX6_begins 20 = .ok (.invokevirtual 87, 3) := dk_182 0 87 (dk_at dksX6_begins_0 20 rfl rfl)
theorem dX6_begins_23 : decode cX6_begins 23 = .ok (.invokevirtual 91, 3) := dk_182 0 91 (dk_at dksX6_begins_1 0 rfl rfl)
theorem dX6_begins_26 : decode cX6_begins 26 = .ok (.ireturn, 1) := dk_172 (dk_at dksX6_begins_1 3 rfl rfl)
theorem q101 : (Jvm.Cond.initialized "FlockHuts$Order") ∈ lw_all := lw_g (lw_at lw_m1 25 rfl) rfl
theorem q529 : (Jvm.Cond.selects "FlockHuts$Order" ({ cls := "java/lang/Object", name := "getClass", desc := "()Ljava/lang/Class;" } : Jvm.MethodName) ({ cls := "java/lang/Object", name := "getClass", desc := "()Ljava/lang/Class;" } : Jvm.MethodName)) ∈ lw_all := lw_g (lw_at lw_m2 213 rfl) rfl
theorem q1056 : (Jvm.Cond.instantiable "FlockHuts$Order" (2 : Nat)) ∈ lw_all := lw_g (lw_at lw_m5 20 rfl) rfl
theorem q1058 : (Jvm.Cond.instanceMethod ({ cls := "FlockHuts$Order", name := "<init>", desc := "(Ljava/lang/String;[I)V" } : Jvm.MethodName)) ∈ lw_all := lw_g (lw_at lw_m5 22 rfl) rfl
theorem q1059 : (Jvm.Cond.code ({ cls := "FlockHuts$Order", name := "<init>", desc := "(Ljava/lang/String;[I)V" } : Jvm.MethodName) prog_6_method_1_code (3 : Nat) (Option.none : Option Jvm.ClassFile.FieldType)) ∈ lw_all := lw_g (lw_at lw_m5 23 rfl) rfl
theorem q1060 : (Jvm.Cond.methodLink "FlockHuts$Order" (3 : Nat) ({ cls := "java/lang/Object", name := "<init>", desc := "()V" } : Jvm.MethodName)) ∈ lw_all := lw_g (lw_at lw_m5 24 rfl) rfl
theorem q1061 : (Jvm.Cond.fieldLink "FlockHuts$Order" (9 : Nat) "FlockHuts$Order" "word" "Ljava/lang/String;") ∈ lw_all := lw_g (lw_at lw_m5 25 rfl) rfl
theorem q1062 : (Jvm.Cond.fieldLink "FlockHuts$Order" (15 : Nat) "FlockHuts$Order" "numbers" "[I") ∈ lw_all := lw_g (lw_at lw_m5 26 rfl) rfl
theorem q1063 : (Jvm.Cond.laysFinal "FlockHuts$Order" "FlockHuts$Order" "word" "Ljava/lang/String;") ∈ lw_all := lw_g (lw_at lw_m5 27 rfl) rfl
theorem q1064 : (Jvm.Cond.soleField "FlockHuts$Order" "word") ∈ lw_all := lw_g (lw_at lw_m5 28 rfl) rfl
theorem q1065 : (Jvm.Cond.laysFinal "FlockHuts$Order" "FlockHuts$Order" "numbers" "[I") ∈ lw_all := lw_g (lw_at lw_m5 29 rfl) rfl
theorem q1066 : (Jvm.Cond.soleField "FlockHuts$Order" "numbers") ∈ lw_all := lw_g (lw_at lw_m5 30 rfl) rfl
theorem q1067 : (Jvm.Cond.superclass "FlockHuts$Order" "java/lang/Object") ∈ lw_all := lw_g (lw_at lw_m5 31 rfl) rfl
theorem q1069 : (Jvm.Cond.instanceMethod ({ cls := "FlockHuts$Order", name := "make", desc := "(LFlockHuts$Field;)I" } : Jvm.MethodName)) ∈ lw_all := lw_g (lw_at lw_m5 33 rfl) rfl
theorem q1070 : (Jvm.Cond.selects "FlockHuts$Order" ({ cls := "FlockHuts$Order", name := "make", desc := "(LFlockHuts$Field;)I" } : Jvm.MethodName) ({ cls := "FlockHuts$Order", name := "make", desc := "(LFlockHuts$Field;)I" } : Jvm.MethodName)) ∈ lw_all := lw_g (lw_at lw_m5 34 rfl) rfl
theorem q1071 : (Jvm.Cond.code ({ cls := "FlockHuts$Order", name := "make", desc := "(LFlockHuts$Field;)I" } : Jvm.MethodName) prog_6_method_2_code (4 : Nat) (Option.some Jvm.ClassFile.FieldType.int)) ∈ lw_all := lw_g (lw_at lw_m5 35 rfl) rfl
theorem q1072 : (Jvm.Cond.methodLink "FlockHuts$Order" (19 : Nat) ({ cls := "java/lang/String", name := "hashCode", desc := "()I" } : Jvm.MethodName)) ∈ lw_all := lw_g (lw_at lw_m5 36 rfl) rfl
theorem q1133 : (Jvm.Cond.stringRef "FlockHuts$Order" (25 : Nat) "sheep") ∈ lw_tbl := lw_at lw_m5 97 rfl
theorem q1134 : (Jvm.Cond.methodLink "FlockHuts$Order" (27 : Nat) ({ cls := "java/lang/String", name := "equals", desc := "(Ljava/lang/Object;)Z" } : Jvm.MethodName)) ∈ lw_all := lw_g (lw_at lw_m5 98 rfl) rfl
theorem q1142 : (Jvm.Cond.stringRef "FlockHuts$Order" (31 : Nat) "hut") ∈ lw_tbl := lw_at lw_m5 106 rfl
theorem q1143 : (Jvm.Cond.stringRef "FlockHuts$Order" (33 : Nat) "leave") ∈ lw_tbl := lw_at lw_m5 107 rfl
theorem q1144 : (Jvm.Cond.stringRef "FlockHuts$Order" (35 : Nat) "strike") ∈ lw_tbl := lw_at lw_m5 108 rfl
theorem q1145 : (Jvm.Cond.stringRef "FlockHuts$Order" (37 : Nat) "move") ∈ lw_tbl := lw_at lw_m5 109 rfl
theorem q1146 : (Jvm.Cond.stringRef "FlockHuts$Order" (39 : Nat) "weigh") ∈ lw_tbl := lw_at lw_m5 110 rfl
theorem q1147 : (Jvm.Cond.stringRef "FlockHuts$Order" (41 : Nat) "round") ∈ lw_tbl := lw_at lw_m5 111 rfl
theorem q1148 : (Jvm.Cond.stringRef "FlockHuts$Order" (43 : Nat) "settle") ∈ lw_tbl := lw_at lw_m5 112 rfl
theorem q1149 : (Jvm.Cond.stringRef "FlockHuts$Order" (45 : Nat) "dog") ∈ lw_tbl := lw_at lw_m5 113 rfl
theorem q1150 : (Jvm.Cond.methodLink "FlockHuts$Order" (47 : Nat) ({ cls := "FlockHuts$Field", name := "come", desc := "(III)I" } : Jvm.MethodName)) ∈ lw_all := lw_g (lw_at lw_m5 114 rfl) rfl
theorem q1201 : (Jvm.Cond.methodLink "FlockHuts$Order" (53 : Nat) ({ cls := "FlockHuts$Field", name := "set", desc := "(II)I" } : Jvm.MethodName)) ∈ lw_all := lw_g (lw_at lw_m5 165 rfl) rfl
theorem q1214 : (Jvm.Cond.methodLink "FlockHuts$Order" (57 : Nat) ({ cls := "FlockHuts$Field", name := "leave", desc := "(I)I" } : Jvm.MethodName)) ∈ lw_all := lw_g (lw_at lw_m5 178 rfl) rfl
theorem q1253 : (Jvm.Cond.selects "FlockHuts$Order" ({ cls := "java/lang/Object", name := "equals", desc := "(Ljava/lang/Object;)Z" } : Jvm.MethodName) ({ cls := "java/lang/Object", name := "equals", desc := "(Ljava/lang/Object;)Z" } : Jvm.MethodName)) ∈ lw_all := lw_g (lw_at lw_m5 217 rfl) rfl
theorem q1275 : (Jvm.Cond.methodLink "FlockHuts$Order" (60 : Nat) ({ cls := "FlockHuts$Field", name := "strike", desc := "(I)I" } : Jvm.MethodName)) ∈ lw_all := lw_g (lw_at lw_m5 239 rfl) rfl
theorem q1290 : (Jvm.Cond.methodLink "FlockHuts$Order" (62 : Nat) ({ cls := "FlockHuts$Field", name := "move", desc := "(III)I" } : Jvm.MethodName)) ∈ lw_all := lw_g (lw_at lw_m6 14 rfl) rfl
theorem q1294 : (Jvm.Cond.methodLink "FlockHuts$Order" (64 : Nat) ({ cls := "FlockHuts$Field", name := "weigh", desc := "(II)I" } : Jvm.MethodName)) ∈ lw_all := lw_g (lw_at lw_m6 18 rfl) rfl
theorem q1298 : (Jvm.Cond.methodLink "FlockHuts$Order" (66 : Nat) ({ cls := "FlockHuts$Field", name := "round", desc := "()I" } : Jvm.MethodName)) ∈ lw_all := lw_g (lw_at lw_m6 22 rfl) rfl
theorem q1306 : (Jvm.Cond.methodLink "FlockHuts$Order" (68 : Nat) ({ cls := "FlockHuts$Field", name := "settle", desc := "(I)I" } : Jvm.MethodName)) ∈ lw_all := lw_g (lw_at lw_m6 30 rfl) rfl
theorem q1311 : (Jvm.Cond.methodLink "FlockHuts$Order" (70 : Nat) ({ cls := "FlockHuts$Field", name := "dog", desc := "(II)I" } : Jvm.MethodName)) ∈ lw_all := lw_g (lw_at lw_m6 35 rfl) rfl
theorem q1320 : (Jvm.Cond.methodLink "FlockHuts$Order" (72 : Nat) ({ cls := "FlockHuts$Field", name := "fetch", desc := "(I)I" } : Jvm.MethodName)) ∈ lw_all := lw_g (lw_at lw_m6 44 rfl) rfl
theorem q1791 : (Jvm.Cond.static ({ cls := "FlockHuts$Order", name := "numbers", desc := "(Ljava/lang/String;)I" } : Jvm.MethodName)) ∈ lw_all := lw_g (lw_at lw_m8 35 rfl) rfl
theorem q1792 : (Jvm.Cond.code ({ cls := "FlockHuts$Order", name := "numbers", desc := "(Ljava/lang/String;)I" } : Jvm.MethodName) prog_6_method_3_code (3 : Nat) (Option.some Jvm.ClassFile.FieldType.int)) ∈ lw_all := lw_g (lw_at lw_m8 36 rfl) rfl
theorem q1793 : (Jvm.Cond.stringRef "FlockHuts$Order" (75 : Nat) "fetch") ∈ lw_tbl := lw_at lw_m8 37 rfl
theorem q1831 : (Jvm.Cond.static ({ cls := "FlockHuts$Order", name := "begins", desc := "(Ljava/lang/String;)Z" } : Jvm.MethodName)) ∈ lw_all := lw_g (lw_at lw_m8 75 rfl) rfl
theorem q1832 : (Jvm.Cond.code ({ cls := "FlockHuts$Order", name := "begins", desc := "(Ljava/lang/String;)Z" } : Jvm.MethodName) prog_6_method_4_code (2 : Nat) (Option.some Jvm.ClassFile.FieldType.boolean)) ∈ lw_all := lw_g (lw_at lw_m8 76 rfl) rfl
theorem q1833 : (Jvm.Cond.stringRef "FlockHuts$Order" (76 : Nat) " sheep hut leave strike move round settle dog fetch ") ∈ lw_tbl := lw_at lw_m8 77 rfl
theorem q1834 : (Jvm.Cond.classLink "FlockHuts$Order" (78 : Nat) "java/lang/StringBuilder") ∈ lw_all := lw_g (lw_at lw_m8 78 rfl) rfl
theorem q1835 : (Jvm.Cond.methodLink "FlockHuts$Order" (80 : Nat) ({ cls := "java/lang/StringBuilder", name := "<init>", desc := "()V" } : Jvm.MethodName)) ∈ lw_all := lw_g (lw_at lw_m8 79 rfl) rfl
theorem q1836 : (Jvm.Cond.stringRef "FlockHuts$Order" (81 : Nat) " ") ∈ lw_tbl := lw_at lw_m8 80 rfl
theorem q1837 : (Jvm.Cond.methodLink "FlockHuts$Order" (83 : Nat) ({ cls := "java/lang/StringBuilder", name := "append", desc := "(Ljava/lang/String;)Ljava/lang/StringBuilder;" } : Jvm.MethodName)) ∈ lw_all := lw_g (lw_at lw_m8 81 rfl) rfl
theorem q1838 : (Jvm.Cond.methodLink "FlockHuts$Order" (87 : Nat) ({ cls := "java/lang/StringBuilder", name := "toString", desc := "()Ljava/lang/String;" } : Jvm.MethodName)) ∈ lw_all := lw_g (lw_at lw_m8 82 rfl) rfl
theorem q1839 : (Jvm.Cond.methodLink "FlockHuts$Order" (91 : Nat) ({ cls := "java/lang/String", name := "contains", desc := "(Ljava/lang/CharSequence;)Z" } : Jvm.MethodName)) ∈ lw_all := lw_g (lw_at lw_m8 83 rfl) rfl
theorem q2447 : (Jvm.Cond.castable "FlockHuts$Order" "java/lang/Object") ∈ lw_tbl := lw_at lw_m10 211 rfl
theorem in_X6 : ∀ w ∈ wsX60, w ∈ lw_all := lw_in wsX60 [1063, 1065] (by decide +kernel) (by decide +kernel)

/-! FlockHuts$Refused -/
set_option maxRecDepth 100000
def RX7 : String := "FlockHuts$Refused"
def TX7 : u_T := fun k => match k with
  | 0 => ("java/lang/Throwable", "cause", "Ljava/lang/Throwable;", false)
  | 1 => ("java/lang/Throwable", "stackTrace", "[Ljava/lang/StackTraceElement;", false)
  | 2 => ("java/lang/Throwable", "suppressedExceptions", "Ljava/util/List;", false)
  | 3 => ("java/lang/Throwable", "detailMessage", "Ljava/lang/String;", false)
  | 4 => ("java/lang/Throwable", "backtrace", "Ljava/lang/Object;", false)
  | 5 => ("java/lang/Throwable", "depth", "I", false)
  | 6 => ("FlockHuts$Refused", "reason", "I", true)
  | _ => ("FlockHuts$Refused", "detail", "I", true)
def tyX7 : Nat → FieldType := fun k => match k with
  | 0 => .object "java/lang/Throwable"
  | 1 => .array (.object "java/lang/StackTraceElement")
  | 2 => .object "java/util/List"
  | 3 => .object "java/lang/String"
  | 4 => .object "java/lang/Object"
  | 5 => .int
  | 6 => .int
  | _ => .int
abbrev wsX70 : List Cond := u_ws RX7 TX7 8
theorem nmX7 : ∀ a, a < 8 → ∀ b, b < 8 → a ≠ b → (TX7 a).2.1 ≠ (TX7 b).2.1 := by decide +kernel
theorem tyX7_ok : ∀ k, k < 8 → parseFieldDescriptor (TX7 k).2.2.1 = some (tyX7 k) := by decide +kernel
abbrev cX7_check : ByteArray := prog_10_method_2_code
def yX7_check : MethodName := ⟨RX7, "check", "(ZII)V"⟩
def dkwX7_check_0 : List UInt8 := [26, 154, 0, 13, 187, 0, 8, 89, 27, 28, 183, 0, 16, 191, 177]
abbrev dktX7_check_0 : List UInt8 := dkwX7_check_0 ++ []
theorem dksX7_check_0 : cX7_check.data.toList.drop 0 = dktX7_check_0 := by decide +kernel
theorem dX7_check_0 : decode cX7_check 0 = .ok (.iload_n 0, 1) := dk_26 (dk_at dksX7_check_0 0 rfl rfl)
theorem dX7_check_1 : decode cX7_check 1 = .ok (.ifCond .ne 13, 3) := dk_154 0 13 (dk_at dksX7_check_0 1 rfl rfl)
theorem dX7_check_4 : decode cX7_check 4 = .ok (.new 8, 3) := dk_187 0 8 (dk_at dksX7_check_0 4 rfl rfl)
theorem dX7_check_7 : decode cX7_check 7 = .ok (.dup, 1) := dk_89 (dk_at dksX7_check_0 7 rfl rfl)
theorem dX7_check_8 : decode cX7_check 8 = .ok (.iload_n 1, 1) := dk_27 (dk_at dksX7_check_0 8 rfl rfl)
theorem dX7_check_9 : decode cX7_check 9 = .ok (.iload_n 2, 1) := dk_28 (dk_at dksX7_check_0 9 rfl rfl)
theorem dX7_check_10 : decode cX7_check 10 = .ok (.invokespecial 16, 3) := dk_183 0 16 (dk_at dksX7_check_0 10 rfl rfl)
theorem dX7_check_13 : decode cX7_check 13 = .ok (.athrow, 1) := dk_191 (dk_at dksX7_check_0 13 rfl rfl)
theorem dX7_check_14 : decode cX7_check 14 = .ok (.return_, 1) := dk_177 (dk_at dksX7_check_0 14 rfl rfl)
abbrev cX7_init : ByteArray := prog_10_method_1_code
def yX7_init : MethodName := ⟨RX7, "<init>", "(II)V"⟩
def dkwX7_init_0 : List UInt8 := [42, 1, 1, 3, 3, 183, 0, 1, 42, 27, 181, 0, 7, 42, 28, 181, 0, 13, 177]
abbrev dktX7_init_0 : List UInt8 := dkwX7_init_0 ++ []
theorem dksX7_init_0 : cX7_init.data.toList.drop 0 = dktX7_init_0 := by decide +kernel
theorem dX7_init_0 : decode cX7_init 0 = .ok (.aload_n 0, 1) := dk_42 (dk_at dksX7_init_0 0 rfl rfl)
theorem dX7_init_1 : decode cX7_init 1 = .ok (.aconst_null, 1) := dk_1 (dk_at dksX7_init_0 1 rfl rfl)
theorem dX7_init_2 : decode cX7_init 2 = .ok (.aconst_null, 1) := dk_1 (dk_at dksX7_init_0 2 rfl rfl)
theorem dX7_init_3 : decode cX7_init 3 = .ok (.iconst 0, 1) := dk_3 (dk_at dksX7_init_0 3 rfl rfl)
theorem dX7_init_4 : decode cX7_init 4 = .ok (.iconst 0, 1) := dk_3 (dk_at dksX7_init_0 4 rfl rfl)
theorem dX7_init_5 : decode cX7_init 5 = .ok (.invokespecial 1, 3) := dk_183 0 1 (dk_at dksX7_init_0 5 rfl rfl)
theorem dX7_init_8 : decode cX7_init 8 = .ok (.aload_n 0, 1) := dk_42 (dk_at dksX7_init_0 8 rfl rfl)
theorem dX7_init_9 : decode cX7_init 9 = .ok (.iload_n 1, 1) := dk_27 (dk_at dksX7_init_0 9 rfl rfl)
theorem dX7_init_10 : decode cX7_init 10 = .ok (.putfield 7, 3) := dk_181 0 7 (dk_at dksX7_init_0 10 rfl rfl)
theorem dX7_init_13 : decode cX7_init 13 = .ok (.aload_n 0, 1) := dk_42 (dk_at dksX7_init_0 13 rfl rfl)
theorem dX7_init_14 : decode cX7_init 14 = .ok (.iload_n 2, 1) := dk_28 (dk_at dksX7_init_0 14 rfl rfl)
theorem dX7_init_15 : decode cX7_init 15 = .ok (.putfield 13, 3) := dk_181 0 13 (dk_at dksX7_init_0 15 rfl rfl)
theorem dX7_init_18 : decode cX7_init 18 = .ok (.return_, 1) := dk_177 (dk_at dksX7_init_0 18 rfl rfl)
theorem q106 : (Jvm.Cond.initialized "FlockHuts$Refused") ∈ lw_all := lw_g (lw_at lw_m1 30 rfl) rfl
theorem q388 : (Jvm.Cond.selects "FlockHuts$Refused" ({ cls := "java/lang/Throwable", name := "fillInStackTrace", desc := "()Ljava/lang/Throwable;" } : Jvm.MethodName) ({ cls := "java/lang/Throwable", name := "fillInStackTrace", desc := "()Ljava/lang/Throwable;" } : Jvm.MethodName)) ∈ lw_all := lw_g (lw_at lw_m2 72 rfl) rfl
theorem q532 : (Jvm.Cond.selects "FlockHuts$Refused" ({ cls := "java/lang/Object", name := "getClass", desc := "()Ljava/lang/Class;" } : Jvm.MethodName) ({ cls := "java/lang/Object", name := "getClass", desc := "()Ljava/lang/Class;" } : Jvm.MethodName)) ∈ lw_all := lw_g (lw_at lw_m2 216 rfl) rfl
theorem q1170 : (Jvm.Cond.static ({ cls := "FlockHuts$Refused", name := "check", desc := "(ZII)V" } : Jvm.MethodName)) ∈ lw_all := lw_g (lw_at lw_m5 134 rfl) rfl
theorem q1171 : (Jvm.Cond.code ({ cls := "FlockHuts$Refused", name := "check", desc := "(ZII)V" } : Jvm.MethodName) prog_10_method_2_code (3 : Nat) (Option.none : Option Jvm.ClassFile.FieldType)) ∈ lw_all := lw_g (lw_at lw_m5 135 rfl) rfl
theorem q1172 : (Jvm.Cond.classLink "FlockHuts$Refused" (8 : Nat) "FlockHuts$Refused") ∈ lw_all := lw_g (lw_at lw_m5 136 rfl) rfl
theorem q1173 : (Jvm.Cond.instantiable "FlockHuts$Refused" (8 : Nat)) ∈ lw_all := lw_g (lw_at lw_m5 137 rfl) rfl
theorem q1174 : (Jvm.Cond.castable "FlockHuts$Refused" "FlockHuts$Refused") ∈ lw_tbl := lw_at lw_m5 138 rfl
theorem q1175 : (Jvm.Cond.selects "FlockHuts$Refused" ({ cls := "java/lang/Throwable", name := "fillInStackTrace", desc := "(I)Ljava/lang/Throwable;" } : Jvm.MethodName) ({ cls := "java/lang/Throwable", name := "fillInStackTrace", desc := "(I)Ljava/lang/Throwable;" } : Jvm.MethodName)) ∈ lw_all := lw_g (lw_at lw_m5 139 rfl) rfl
theorem q1176 : (Jvm.Cond.lays "FlockHuts$Refused" "java/lang/Throwable" "cause" "Ljava/lang/Throwable;") ∈ lw_all := lw_g (lw_at lw_m5 140 rfl) rfl
theorem q1177 : (Jvm.Cond.lays "FlockHuts$Refused" "java/lang/Throwable" "stackTrace" "[Ljava/lang/StackTraceElement;") ∈ lw_all := lw_g (lw_at lw_m5 141 rfl) rfl
theorem q1178 : (Jvm.Cond.lays "FlockHuts$Refused" "java/lang/Throwable" "suppressedExceptions" "Ljava/util/List;") ∈ lw_all := lw_g (lw_at lw_m5 142 rfl) rfl
theorem q1179 : (Jvm.Cond.lays "FlockHuts$Refused" "java/lang/Throwable" "detailMessage" "Ljava/lang/String;") ∈ lw_all := lw_g (lw_at lw_m5 143 rfl) rfl
theorem q1180 : (Jvm.Cond.lays "FlockHuts$Refused" "java/lang/Throwable" "backtrace" "Ljava/lang/Object;") ∈ lw_all := lw_g (lw_at lw_m5 144 rfl) rfl
theorem q1181 : (Jvm.Cond.methodLink "FlockHuts$Refused" (16 : Nat) ({ cls := "FlockHuts$Refused", name := "<init>", desc := "(II)V" } : Jvm.MethodName)) ∈ lw_all := lw_g (lw_at lw_m5 145 rfl) rfl
theorem q1182 : (Jvm.Cond.instanceMethod ({ cls := "FlockHuts$Refused", name := "<init>", desc := "(II)V" } : Jvm.MethodName)) ∈ lw_all := lw_g (lw_at lw_m5 146 rfl) rfl
theorem q1183 : (Jvm.Cond.code ({ cls := "FlockHuts$Refused", name := "<init>", desc := "(II)V" } : Jvm.MethodName) prog_10_method_1_code (3 : Nat) (Option.none : Option Jvm.ClassFile.FieldType)) ∈ lw_all := lw_g (lw_at lw_m5 147 rfl) rfl
theorem q1184 : (Jvm.Cond.methodLink "FlockHuts$Refused" (1 : Nat) ({ cls := "java/lang/Exception", name := "<init>", desc := "(Ljava/lang/String;Ljava/lang/Throwable;ZZ)V" } : Jvm.MethodName)) ∈ lw_all := lw_g (lw_at lw_m5 148 rfl) rfl
theorem q1190 : (Jvm.Cond.fieldLink "FlockHuts$Refused" (7 : Nat) "FlockHuts$Refused" "reason" "I") ∈ lw_all := lw_g (lw_at lw_m5 154 rfl) rfl
theorem q1192 : (Jvm.Cond.fieldLink "FlockHuts$Refused" (13 : Nat) "FlockHuts$Refused" "detail" "I") ∈ lw_all := lw_g (lw_at lw_m5 156 rfl) rfl
theorem q1194 : (Jvm.Cond.laysFinal "FlockHuts$Refused" "FlockHuts$Refused" "reason" "I") ∈ lw_all := lw_g (lw_at lw_m5 158 rfl) rfl
theorem q1195 : (Jvm.Cond.soleField "FlockHuts$Refused" "reason") ∈ lw_all := lw_g (lw_at lw_m5 159 rfl) rfl
theorem q1196 : (Jvm.Cond.laysFinal "FlockHuts$Refused" "FlockHuts$Refused" "detail" "I") ∈ lw_all := lw_g (lw_at lw_m5 160 rfl) rfl
theorem q1197 : (Jvm.Cond.soleField "FlockHuts$Refused" "detail") ∈ lw_all := lw_g (lw_at lw_m5 161 rfl) rfl
theorem q1198 : (Jvm.Cond.lays "FlockHuts$Refused" "java/lang/Throwable" "depth" "I") ∈ lw_all := lw_g (lw_at lw_m5 162 rfl) rfl
theorem q1199 : (Jvm.Cond.superclass "FlockHuts$Refused" "java/lang/Exception") ∈ lw_all := lw_g (lw_at lw_m5 163 rfl) rfl
theorem q1256 : (Jvm.Cond.selects "FlockHuts$Refused" ({ cls := "java/lang/Object", name := "equals", desc := "(Ljava/lang/Object;)Z" } : Jvm.MethodName) ({ cls := "java/lang/Object", name := "equals", desc := "(Ljava/lang/Object;)Z" } : Jvm.MethodName)) ∈ lw_all := lw_g (lw_at lw_m5 220 rfl) rfl
theorem q2451 : (Jvm.Cond.castable "FlockHuts$Refused" "java/lang/Object") ∈ lw_tbl := lw_at lw_m10 215 rfl
theorem in_X7 : ∀ w ∈ wsX70, w ∈ lw_all := lw_in wsX70 [1176, 1177, 1178, 1179, 1180, 1198, 1194, 1196] (by decide +kernel) (by decide +kernel)

/-! FlockHuts$Placed -/
set_option maxRecDepth 100000
def RX8 : String := "FlockHuts$Placed"
abbrev cX8_distance : ByteArray := prog_8_method_3_code
def yX8_distance : MethodName := ⟨RX8, "distance", "(LFlockHuts$Placed;)I"⟩
def dkwX8_distance_1 : List UInt8 := [185, 0, 7, 1, 0, 100, 62, 28, 28, 104, 29, 29, 104, 96, 172]
abbrev dktX8_distance_1 : List UInt8 := dkwX8_distance_1 ++ []
def dkwX8_distance_0 : List UInt8 := [42, 185, 0, 1, 1, 0, 43, 185, 0, 1, 1, 0, 100, 61, 42, 185, 0, 7, 1, 0, 43]
abbrev dktX8_distance_0 : List UInt8 := dkwX8_distance_0 ++ dktX8_distance_1
theorem dksX8_distance_0 : cX8_distance.data.toList.drop 0 = dktX8_distance_0 := by decide +kernel
theorem dksX8_distance_1 : cX8_distance.data.toList.drop 21 = dktX8_distance_1 := dk_seg dksX8_distance_0 21 rfl rfl
theorem dX8_distance_0 : decode cX8_distance 0 = .ok (.aload_n 0, 1) := dk_42 (dk_at dksX8_distance_0 0 rfl rfl)
theorem dX8_distance_1 : decode cX8_distance 1 = .ok (.invokeinterface 1 1, 5) := by decide +kernel
theorem dX8_distance_6 : decode cX8_distance 6 = .ok (.aload_n 1, 1) := dk_43 (dk_at dksX8_distance_0 6 rfl rfl)
theorem dX8_distance_7 : decode cX8_distance 7 = .ok (.invokeinterface 1 1, 5) := by decide +kernel
theorem dX8_distance_12 : decode cX8_distance 12 = .ok (.isub, 1) := dk_100 (dk_at dksX8_distance_0 12 rfl rfl)
theorem dX8_distance_13 : decode cX8_distance 13 = .ok (.istore_n 2, 1) := dk_61 (dk_at dksX8_distance_0 13 rfl rfl)
theorem dX8_distance_14 : decode cX8_distance 14 = .ok (.aload_n 0, 1) := dk_42 (dk_at dksX8_distance_0 14 rfl rfl)
theorem dX8_distance_15 : decode cX8_distance 15 = .ok (.invokeinterface 7 1, 5) := by decide +kernel
theorem dX8_distance_20 : decode cX8_distance 20 = .ok (.aload_n 1, 1) := dk_43 (dk_at dksX8_distance_0 20 rfl rfl)
theorem dX8_distance_21 : decode cX8_distance 21 = .ok (.invokeinterface 7 1, 5) := by decide +kernel
theorem dX8_distance_26 : decode cX8_distance 26 = .ok (.isub, 1) := dk_100 (dk_at dksX8_distance_1 5 rfl rfl)
theorem dX8_distance_27 : decode cX8_distance 27 = .ok (.istore_n 3, 1) := dk_62 (dk_at dksX8_distance_1 6 rfl rfl)
theorem dX8_distance_28 : decode cX8_distance 28 = .ok (.iload_n 2, 1) := dk_28 (dk_at dksX8_distance_1 7 rfl rfl)
theorem dX8_distance_29 : decode cX8_distance 29 = .ok (.iload_n 2, 1) := dk_28 (dk_at dksX8_distance_1 8 rfl rfl)
theorem dX8_distance_30 : decode cX8_distance 30 = .ok (.imul, 1) := dk_104 (dk_at dksX8_distance_1 9 rfl rfl)
theorem dX8_distance_31 : decode cX8_distance 31 = .ok (.iload_n 3, 1) := dk_29 (dk_at dksX8_distance_1 10 rfl rfl)
theorem dX8_distance_32 : decode cX8_distance 32 = .ok (.iload_n 3, 1) := dk_29 (dk_at dksX8_distance_1 11 rfl rfl)
theorem dX8_distance_33 : decode cX8_distance 33 = .ok (.imul, 1) := dk_104 (dk_at dksX8_distance_1 12 rfl rfl)
theorem dX8_distance_34 : decode cX8_distance 34 = .ok (.iadd, 1) := dk_96 (dk_at dksX8_distance_1 13 rfl rfl)
theorem dX8_distance_35 : decode cX8_distance 35 = .ok (.ireturn, 1) := dk_172 (dk_at dksX8_distance_1 14 rfl rfl)
abbrev cX8_at : ByteArray := prog_8_method_5_code
def yX8_at : MethodName := ⟨RX8, "at", "(II)LFlockHuts$Placed;"⟩
def dkwX8_at_0 : List UInt8 := [187, 0, 14, 89, 26, 27, 183, 0, 16, 176]
abbrev dktX8_at_0 : List UInt8 := dkwX8_at_0 ++ []
theorem dksX8_at_0 : cX8_at.data.toList.drop 0 = dktX8_at_0 := by decide +kernel
theorem dX8_at_0 : decode cX8_at 0 = .ok (.new 14, 3) := dk_187 0 14 (dk_at dksX8_at_0 0 rfl rfl)
theorem dX8_at_3 : decode cX8_at 3 = .ok (.dup, 1) := dk_89 (dk_at dksX8_at_0 3 rfl rfl)
theorem dX8_at_4 : decode cX8_at 4 = .ok (.iload_n 0, 1) := dk_26 (dk_at dksX8_at_0 4 rfl rfl)
theorem dX8_at_5 : decode cX8_at 5 = .ok (.iload_n 1, 1) := dk_27 (dk_at dksX8_at_0 5 rfl rfl)
theorem dX8_at_6 : decode cX8_at 6 = .ok (.invokespecial 16, 3) := dk_183 0 16 (dk_at dksX8_at_0 6 rfl rfl)
theorem dX8_at_9 : decode cX8_at 9 = .ok (.areturn, 1) := dk_176 (dk_at dksX8_at_0 9 rfl rfl)
abbrev cX8_isAt : ByteArray := prog_8_method_4_code
def yX8_isAt : MethodName := ⟨RX8, "isAt", "(LFlockHuts$Placed;)Z"⟩
def dkwX8_isAt_0 : List UInt8 := [42, 43, 185, 0, 10, 2, 0, 154, 0, 7, 4, 167, 0, 4, 3, 172]
abbrev dktX8_isAt_0 : List UInt8 := dkwX8_isAt_0 ++ []
theorem dksX8_isAt_0 : cX8_isAt.data.toList.drop 0 = dktX8_isAt_0 := by decide +kernel
theorem dX8_isAt_0 : decode cX8_isAt 0 = .ok (.aload_n 0, 1) := dk_42 (dk_at dksX8_isAt_0 0 rfl rfl)
theorem dX8_isAt_1 : decode cX8_isAt 1 = .ok (.aload_n 1, 1) := dk_43 (dk_at dksX8_isAt_0 1 rfl rfl)
theorem dX8_isAt_2 : decode cX8_isAt 2 = .ok (.invokeinterface 10 2, 5) := by decide +kernel
theorem dX8_isAt_7 : decode cX8_isAt 7 = .ok (.ifCond .ne 7, 3) := dk_154 0 7 (dk_at dksX8_isAt_0 7 rfl rfl)
theorem dX8_isAt_10 : decode cX8_isAt 10 = .ok (.iconst 1, 1) := dk_4 (dk_at dksX8_isAt_0 10 rfl rfl)
theorem dX8_isAt_11 : decode cX8_isAt 11 = .ok (.goto 4, 3) := dk_167 0 4 (dk_at dksX8_isAt_0 11 rfl rfl)
theorem dX8_isAt_14 : decode cX8_isAt 14 = .ok (.iconst 0, 1) := dk_3 (dk_at dksX8_isAt_0 14 rfl rfl)
theorem dX8_isAt_15 : decode cX8_isAt 15 = .ok (.ireturn, 1) := dk_172 (dk_at dksX8_isAt_0 15 rfl rfl)
theorem q107 : (Jvm.Cond.initialized "FlockHuts$Placed") ∈ lw_all := lw_g (lw_at lw_m1 31 rfl) rfl
theorem q575 : (Jvm.Cond.interfaceMethod "FlockHuts$Placed" "FlockHuts$Placed" "x" "()I") ∈ lw_tbl := lw_at lw_m3 19 rfl
theorem q576 : (Jvm.Cond.declares ({ cls := "FlockHuts$Placed", name := "x", desc := "()I" } : Jvm.MethodName)) ∈ lw_tbl := lw_at lw_m3 20 rfl
theorem q597 : (Jvm.Cond.interfaceMethod "FlockHuts$Placed" "FlockHuts$Placed" "y" "()I") ∈ lw_tbl := lw_at lw_m3 41 rfl
theorem q598 : (Jvm.Cond.declares ({ cls := "FlockHuts$Placed", name := "y", desc := "()I" } : Jvm.MethodName)) ∈ lw_tbl := lw_at lw_m3 42 rfl
theorem q643 : (Jvm.Cond.interfaceMethod "FlockHuts$Placed" "FlockHuts$Placed" "distance" "(LFlockHuts$Placed;)I") ∈ lw_tbl := lw_at lw_m3 87 rfl
theorem q644 : (Jvm.Cond.declares ({ cls := "FlockHuts$Placed", name := "distance", desc := "(LFlockHuts$Placed;)I" } : Jvm.MethodName)) ∈ lw_tbl := lw_at lw_m3 88 rfl
theorem q646 : (Jvm.Cond.instanceMethod ({ cls := "FlockHuts$Placed", name := "distance", desc := "(LFlockHuts$Placed;)I" } : Jvm.MethodName)) ∈ lw_all := lw_g (lw_at lw_m3 90 rfl) rfl
theorem q647 : (Jvm.Cond.publicMethod ({ cls := "FlockHuts$Placed", name := "distance", desc := "(LFlockHuts$Placed;)I" } : Jvm.MethodName)) ∈ lw_tbl := lw_at lw_m3 91 rfl
theorem q648 : (Jvm.Cond.code ({ cls := "FlockHuts$Placed", name := "distance", desc := "(LFlockHuts$Placed;)I" } : Jvm.MethodName) prog_8_method_3_code (4 : Nat) (Option.some Jvm.ClassFile.FieldType.int)) ∈ lw_all := lw_g (lw_at lw_m3 92 rfl) rfl
theorem q649 : (Jvm.Cond.interfaceEntry "FlockHuts$Placed" (1 : Nat)) ∈ lw_tbl := lw_at lw_m3 93 rfl
theorem q650 : (Jvm.Cond.methodLink "FlockHuts$Placed" (1 : Nat) ({ cls := "FlockHuts$Placed", name := "x", desc := "()I" } : Jvm.MethodName)) ∈ lw_all := lw_g (lw_at lw_m3 94 rfl) rfl
theorem q651 : (Jvm.Cond.interfaceEntry "FlockHuts$Placed" (7 : Nat)) ∈ lw_tbl := lw_at lw_m3 95 rfl
theorem q652 : (Jvm.Cond.methodLink "FlockHuts$Placed" (7 : Nat) ({ cls := "FlockHuts$Placed", name := "y", desc := "()I" } : Jvm.MethodName)) ∈ lw_all := lw_g (lw_at lw_m3 96 rfl) rfl
theorem q712 : (Jvm.Cond.static ({ cls := "FlockHuts$Placed", name := "at", desc := "(II)LFlockHuts$Placed;" } : Jvm.MethodName)) ∈ lw_all := lw_g (lw_at lw_m3 156 rfl) rfl
theorem q713 : (Jvm.Cond.code ({ cls := "FlockHuts$Placed", name := "at", desc := "(II)LFlockHuts$Placed;" } : Jvm.MethodName) prog_8_method_5_code (2 : Nat) (Option.some (Jvm.ClassFile.FieldType.object "FlockHuts$Placed"))) ∈ lw_all := lw_g (lw_at lw_m3 157 rfl) rfl
theorem q714 : (Jvm.Cond.classLink "FlockHuts$Placed" (14 : Nat) "FlockHuts$Placed$1") ∈ lw_all := lw_g (lw_at lw_m3 158 rfl) rfl
theorem q716 : (Jvm.Cond.methodLink "FlockHuts$Placed" (16 : Nat) ({ cls := "FlockHuts$Placed$1", name := "<init>", desc := "(II)V" } : Jvm.MethodName)) ∈ lw_all := lw_g (lw_at lw_m3 160 rfl) rfl
theorem q736 : (Jvm.Cond.declares ({ cls := "FlockHuts$Placed", name := "isAt", desc := "(LFlockHuts$Placed;)Z" } : Jvm.MethodName)) ∈ lw_tbl := lw_at lw_m3 180 rfl
theorem q738 : (Jvm.Cond.instanceMethod ({ cls := "FlockHuts$Placed", name := "isAt", desc := "(LFlockHuts$Placed;)Z" } : Jvm.MethodName)) ∈ lw_all := lw_g (lw_at lw_m3 182 rfl) rfl
theorem q739 : (Jvm.Cond.publicMethod ({ cls := "FlockHuts$Placed", name := "isAt", desc := "(LFlockHuts$Placed;)Z" } : Jvm.MethodName)) ∈ lw_tbl := lw_at lw_m3 183 rfl
theorem q740 : (Jvm.Cond.code ({ cls := "FlockHuts$Placed", name := "isAt", desc := "(LFlockHuts$Placed;)Z" } : Jvm.MethodName) prog_8_method_4_code (2 : Nat) (Option.some Jvm.ClassFile.FieldType.boolean)) ∈ lw_all := lw_g (lw_at lw_m3 184 rfl) rfl
theorem q741 : (Jvm.Cond.interfaceEntry "FlockHuts$Placed" (10 : Nat)) ∈ lw_tbl := lw_at lw_m3 185 rfl
theorem q742 : (Jvm.Cond.methodLink "FlockHuts$Placed" (10 : Nat) ({ cls := "FlockHuts$Placed", name := "distance", desc := "(LFlockHuts$Placed;)I" } : Jvm.MethodName)) ∈ lw_all := lw_g (lw_at lw_m3 186 rfl) rfl

/-! FlockHuts$Placed$1 -/
set_option maxRecDepth 100000
def RX9 : String := "FlockHuts$Placed$1"
def TX9 : u_T := fun k => match k with
  | 0 => ("FlockHuts$Placed$1", "val$x", "I", true)
  | _ => ("FlockHuts$Placed$1", "val$y", "I", true)
def tyX9 : Nat → FieldType := fun k => match k with
  | 0 => .int
  | _ => .int
abbrev wsX90 : List Cond := u_ws RX9 TX9 2
theorem nmX9 : ∀ a, a < 2 → ∀ b, b < 2 → a ≠ b → (TX9 a).2.1 ≠ (TX9 b).2.1 := by decide +kernel
theorem tyX9_ok : ∀ k, k < 2 → parseFieldDescriptor (TX9 k).2.2.1 = some (tyX9 k) := by decide +kernel
abbrev cX9_x : ByteArray := prog_9_method_2_code
def yX9_x : MethodName := ⟨RX9, "x", "()I"⟩
theorem dX9_x_0 : decode cX9_x 0 = .ok (.aload_n 0, 1) := by decide +kernel
theorem dX9_x_1 : decode cX9_x 1 = .ok (.getfield 1, 3) := by decide +kernel
theorem dX9_x_4 : decode cX9_x 4 = .ok (.ireturn, 1) := by decide +kernel
abbrev cX9_y : ByteArray := prog_9_method_3_code
def yX9_y : MethodName := ⟨RX9, "y", "()I"⟩
theorem dX9_y_0 : decode cX9_y 0 = .ok (.aload_n 0, 1) := by decide +kernel
theorem dX9_y_1 : decode cX9_y 1 = .ok (.getfield 7, 3) := by decide +kernel
theorem dX9_y_4 : decode cX9_y 4 = .ok (.ireturn, 1) := by decide +kernel
abbrev cX9_init : ByteArray := prog_9_method_1_code
def yX9_init : MethodName := ⟨RX9, "<init>", "(II)V"⟩
def dkwX9_init_0 : List UInt8 := [42, 27, 181, 0, 1, 42, 28, 181, 0, 7, 42, 183, 0, 10, 177]
abbrev dktX9_init_0 : List UInt8 := dkwX9_init_0 ++ []
theorem dksX9_init_0 : cX9_init.data.toList.drop 0 = dktX9_init_0 := by decide +kernel
theorem dX9_init_0 : decode cX9_init 0 = .ok (.aload_n 0, 1) := dk_42 (dk_at dksX9_init_0 0 rfl rfl)
theorem dX9_init_1 : decode cX9_init 1 = .ok (.iload_n 1, 1) := dk_27 (dk_at dksX9_init_0 1 rfl rfl)
theorem dX9_init_2 : decode cX9_init 2 = .ok (.putfield 1, 3) := dk_181 0 1 (dk_at dksX9_init_0 2 rfl rfl)
theorem dX9_init_5 : decode cX9_init 5 = .ok (.aload_n 0, 1) := dk_42 (dk_at dksX9_init_0 5 rfl rfl)
theorem dX9_init_6 : decode cX9_init 6 = .ok (.iload_n 2, 1) := dk_28 (dk_at dksX9_init_0 6 rfl rfl)
theorem dX9_init_7 : decode cX9_init 7 = .ok (.putfield 7, 3) := dk_181 0 7 (dk_at dksX9_init_0 7 rfl rfl)
theorem dX9_init_10 : decode cX9_init 10 = .ok (.aload_n 0, 1) := dk_42 (dk_at dksX9_init_0 10 rfl rfl)
theorem dX9_init_11 : decode cX9_init 11 = .ok (.invokespecial 10, 3) := dk_183 0 10 (dk_at dksX9_init_0 11 rfl rfl)
theorem dX9_init_14 : decode cX9_init 14 = .ok (.return_, 1) := dk_177 (dk_at dksX9_init_0 14 rfl rfl)
theorem q108 : (Jvm.Cond.initialized "FlockHuts$Placed$1") ∈ lw_all := lw_g (lw_at lw_m1 32 rfl) rfl
theorem q531 : (Jvm.Cond.selects "FlockHuts$Placed$1" ({ cls := "java/lang/Object", name := "getClass", desc := "()Ljava/lang/Class;" } : Jvm.MethodName) ({ cls := "java/lang/Object", name := "getClass", desc := "()Ljava/lang/Class;" } : Jvm.MethodName)) ∈ lw_all := lw_g (lw_at lw_m2 215 rfl) rfl
theorem q583 : (Jvm.Cond.castable "FlockHuts$Placed$1" "FlockHuts$Placed") ∈ lw_tbl := lw_at lw_m3 27 rfl
theorem q584 : (Jvm.Cond.selects "FlockHuts$Placed$1" ({ cls := "FlockHuts$Placed", name := "x", desc := "()I" } : Jvm.MethodName) ({ cls := "FlockHuts$Placed$1", name := "x", desc := "()I" } : Jvm.MethodName)) ∈ lw_all := lw_g (lw_at lw_m3 28 rfl) rfl
theorem q585 : (Jvm.Cond.unhidden "FlockHuts$Placed$1" "x" "()I") ∈ lw_tbl := lw_at lw_m3 29 rfl
theorem q586 : (Jvm.Cond.instanceMethod ({ cls := "FlockHuts$Placed$1", name := "x", desc := "()I" } : Jvm.MethodName)) ∈ lw_all := lw_g (lw_at lw_m3 30 rfl) rfl
theorem q587 : (Jvm.Cond.publicMethod ({ cls := "FlockHuts$Placed$1", name := "x", desc := "()I" } : Jvm.MethodName)) ∈ lw_tbl := lw_at lw_m3 31 rfl
theorem q588 : (Jvm.Cond.code ({ cls := "FlockHuts$Placed$1", name := "x", desc := "()I" } : Jvm.MethodName) prog_9_method_2_code (1 : Nat) (Option.some Jvm.ClassFile.FieldType.int)) ∈ lw_all := lw_g (lw_at lw_m3 32 rfl) rfl
theorem q604 : (Jvm.Cond.selects "FlockHuts$Placed$1" ({ cls := "FlockHuts$Placed", name := "y", desc := "()I" } : Jvm.MethodName) ({ cls := "FlockHuts$Placed$1", name := "y", desc := "()I" } : Jvm.MethodName)) ∈ lw_all := lw_g (lw_at lw_m3 48 rfl) rfl
theorem q605 : (Jvm.Cond.unhidden "FlockHuts$Placed$1" "y" "()I") ∈ lw_tbl := lw_at lw_m3 49 rfl
theorem q606 : (Jvm.Cond.instanceMethod ({ cls := "FlockHuts$Placed$1", name := "y", desc := "()I" } : Jvm.MethodName)) ∈ lw_all := lw_g (lw_at lw_m3 50 rfl) rfl
theorem q607 : (Jvm.Cond.publicMethod ({ cls := "FlockHuts$Placed$1", name := "y", desc := "()I" } : Jvm.MethodName)) ∈ lw_tbl := lw_at lw_m3 51 rfl
theorem q608 : (Jvm.Cond.code ({ cls := "FlockHuts$Placed$1", name := "y", desc := "()I" } : Jvm.MethodName) prog_9_method_3_code (1 : Nat) (Option.some Jvm.ClassFile.FieldType.int)) ∈ lw_all := lw_g (lw_at lw_m3 52 rfl) rfl
theorem q653 : (Jvm.Cond.unhidden "FlockHuts$Placed$1" "distance" "(LFlockHuts$Placed;)I") ∈ lw_tbl := lw_at lw_m3 97 rfl
theorem q715 : (Jvm.Cond.instantiable "FlockHuts$Placed$1" (2 : Nat)) ∈ lw_all := lw_g (lw_at lw_m3 159 rfl) rfl
theorem q717 : (Jvm.Cond.instanceMethod ({ cls := "FlockHuts$Placed$1", name := "<init>", desc := "(II)V" } : Jvm.MethodName)) ∈ lw_all := lw_g (lw_at lw_m3 161 rfl) rfl
theorem q718 : (Jvm.Cond.code ({ cls := "FlockHuts$Placed$1", name := "<init>", desc := "(II)V" } : Jvm.MethodName) prog_9_method_1_code (3 : Nat) (Option.none : Option Jvm.ClassFile.FieldType)) ∈ lw_all := lw_g (lw_at lw_m3 162 rfl) rfl
theorem q719 : (Jvm.Cond.methodLink "FlockHuts$Placed$1" (10 : Nat) ({ cls := "java/lang/Object", name := "<init>", desc := "()V" } : Jvm.MethodName)) ∈ lw_all := lw_g (lw_at lw_m3 163 rfl) rfl
theorem q720 : (Jvm.Cond.fieldLink "FlockHuts$Placed$1" (1 : Nat) "FlockHuts$Placed$1" "val$x" "I") ∈ lw_all := lw_g (lw_at lw_m3 164 rfl) rfl
theorem q721 : (Jvm.Cond.fieldLink "FlockHuts$Placed$1" (7 : Nat) "FlockHuts$Placed$1" "val$y" "I") ∈ lw_all := lw_g (lw_at lw_m3 165 rfl) rfl
theorem q722 : (Jvm.Cond.laysFinal "FlockHuts$Placed$1" "FlockHuts$Placed$1" "val$x" "I") ∈ lw_all := lw_g (lw_at lw_m3 166 rfl) rfl
theorem q723 : (Jvm.Cond.soleField "FlockHuts$Placed$1" "val$x") ∈ lw_all := lw_g (lw_at lw_m3 167 rfl) rfl
theorem q724 : (Jvm.Cond.laysFinal "FlockHuts$Placed$1" "FlockHuts$Placed$1" "val$y" "I") ∈ lw_all := lw_g (lw_at lw_m3 168 rfl) rfl
theorem q725 : (Jvm.Cond.soleField "FlockHuts$Placed$1" "val$y") ∈ lw_all := lw_g (lw_at lw_m3 169 rfl) rfl
theorem q726 : (Jvm.Cond.superclass "FlockHuts$Placed$1" "java/lang/Object") ∈ lw_all := lw_g (lw_at lw_m3 170 rfl) rfl
theorem q1255 : (Jvm.Cond.selects "FlockHuts$Placed$1" ({ cls := "java/lang/Object", name := "equals", desc := "(Ljava/lang/Object;)Z" } : Jvm.MethodName) ({ cls := "java/lang/Object", name := "equals", desc := "(Ljava/lang/Object;)Z" } : Jvm.MethodName)) ∈ lw_all := lw_g (lw_at lw_m5 219 rfl) rfl
theorem q2452 : (Jvm.Cond.castable "FlockHuts$Placed$1" "java/lang/Object") ∈ lw_tbl := lw_at lw_m10 216 rfl
theorem in_X9 : ∀ w ∈ wsX90, w ∈ lw_all := lw_in wsX90 [722, 724] (by decide +kernel) (by decide +kernel)

/-! FlockHuts$Field$Flock -/
set_option maxRecDepth 100000
def RX10 : String := "FlockHuts$Field$Flock"
def TX10 : u_T := fun k => match k with
  | 0 => ("FlockHuts$Field$Flock", "hut", "I", true)
  | _ => ("FlockHuts$Field$Flock", "this$0", "LFlockHuts$Field;", true)
def tyX10 : Nat → FieldType := fun k => match k with
  | 0 => .int
  | _ => .object "FlockHuts$Field"
abbrev wsX100 : List Cond := u_ws RX10 TX10 2
theorem nmX10 : ∀ a, a < 2 → ∀ b, b < 2 → a ≠ b → (TX10 a).2.1 ≠ (TX10 b).2.1 := by decide +kernel
theorem tyX10_ok : ∀ k, k < 2 → parseFieldDescriptor (TX10 k).2.2.1 = some (tyX10 k) := by decide +kernel
abbrev cX10_init : ByteArray := prog_3_method_1_code
def yX10_init : MethodName := ⟨RX10, "<init>", "(LFlockHuts$Field;I)V"⟩
def dkwX10_init_0 : List UInt8 := [42, 43, 181, 0, 1, 42, 183, 0, 7, 42, 28, 181, 0, 13, 177]
abbrev dktX10_init_0 : List UInt8 := dkwX10_init_0 ++ []
theorem dksX10_init_0 : cX10_init.data.toList.drop 0 = dktX10_init_0 := by decide +kernel
theorem dX10_init_0 : decode cX10_init 0 = .ok (.aload_n 0, 1) := dk_42 (dk_at dksX10_init_0 0 rfl rfl)
theorem dX10_init_1 : decode cX10_init 1 = .ok (.aload_n 1, 1) := dk_43 (dk_at dksX10_init_0 1 rfl rfl)
theorem dX10_init_2 : decode cX10_init 2 = .ok (.putfield 1, 3) := dk_181 0 1 (dk_at dksX10_init_0 2 rfl rfl)
theorem dX10_init_5 : decode cX10_init 5 = .ok (.aload_n 0, 1) := dk_42 (dk_at dksX10_init_0 5 rfl rfl)
theorem dX10_init_6 : decode cX10_init 6 = .ok (.invokespecial 7, 3) := dk_183 0 7 (dk_at dksX10_init_0 6 rfl rfl)
theorem dX10_init_9 : decode cX10_init 9 = .ok (.aload_n 0, 1) := dk_42 (dk_at dksX10_init_0 9 rfl rfl)
theorem dX10_init_10 : decode cX10_init 10 = .ok (.iload_n 2, 1) := dk_28 (dk_at dksX10_init_0 10 rfl rfl)
theorem dX10_init_11 : decode cX10_init 11 = .ok (.putfield 13, 3) := dk_181 0 13 (dk_at dksX10_init_0 11 rfl rfl)
theorem dX10_init_14 : decode cX10_init 14 = .ok (.return_, 1) := dk_177 (dk_at dksX10_init_0 14 rfl rfl)
abbrev cX10_isEmpty : ByteArray := prog_3_method_9_code
def yX10_isEmpty : MethodName := ⟨RX10, "isEmpty", "()Z"⟩
def dkwX10_isEmpty_0 : List UInt8 := [42, 182, 0, 22, 185, 0, 26, 1, 0, 154, 0, 7, 4, 167, 0, 4, 3, 172]
abbrev dktX10_isEmpty_0 : List UInt8 := dkwX10_isEmpty_0 ++ []
theorem dksX10_isEmpty_0 : cX10_isEmpty.data.toList.drop 0 = dktX10_isEmpty_0 := by decide +kernel
theorem dX10_isEmpty_0 : decode cX10_isEmpty 0 = .ok (.aload_n 0, 1) := dk_42 (dk_at dksX10_isEmpty_0 0 rfl rfl)
theorem dX10_isEmpty_1 : decode cX10_isEmpty 1 = .ok (.invokevirtual 22, 3) := dk_182 0 22 (dk_at dksX10_isEmpty_0 1 rfl rfl)
theorem dX10_isEmpty_4 : decode cX10_isEmpty 4 = .ok (.invokeinterface 26 1, 5) := by decide +kernel
theorem dX10_isEmpty_9 : decode cX10_isEmpty 9 = .ok (.ifCond .ne 7, 3) := dk_154 0 7 (dk_at dksX10_isEmpty_0 9 rfl rfl)
theorem dX10_isEmpty_12 : decode cX10_isEmpty 12 = .ok (.iconst 1, 1) := dk_4 (dk_at dksX10_isEmpty_0 12 rfl rfl)
theorem dX10_isEmpty_13 : decode cX10_isEmpty 13 = .ok (.goto 4, 3) := dk_167 0 4 (dk_at dksX10_isEmpty_0 13 rfl rfl)
theorem dX10_isEmpty_16 : decode cX10_isEmpty 16 = .ok (.iconst 0, 1) := dk_3 (dk_at dksX10_isEmpty_0 16 rfl rfl)
theorem dX10_isEmpty_17 : decode cX10_isEmpty 17 = .ok (.ireturn, 1) := dk_172 (dk_at dksX10_isEmpty_0 17 rfl rfl)
abbrev cX10_iterator : ByteArray := prog_3_method_2_code
def yX10_iterator : MethodName := ⟨RX10, "iterator", "()Ljava/util/Iterator;"⟩
def dkwX10_iterator_0 : List UInt8 := [187, 0, 17, 89, 42, 183, 0, 19, 176]
abbrev dktX10_iterator_0 : List UInt8 := dkwX10_iterator_0 ++ []
theorem dksX10_iterator_0 : cX10_iterator.data.toList.drop 0 = dktX10_iterator_0 := by decide +kernel
theorem dX10_iterator_0 : decode cX10_iterator 0 = .ok (.new 17, 3) := dk_187 0 17 (dk_at dksX10_iterator_0 0 rfl rfl)
theorem dX10_iterator_3 : decode cX10_iterator 3 = .ok (.dup, 1) := dk_89 (dk_at dksX10_iterator_0 3 rfl rfl)
theorem dX10_iterator_4 : decode cX10_iterator 4 = .ok (.aload_n 0, 1) := dk_42 (dk_at dksX10_iterator_0 4 rfl rfl)
theorem dX10_iterator_5 : decode cX10_iterator 5 = .ok (.invokespecial 19, 3) := dk_183 0 19 (dk_at dksX10_iterator_0 5 rfl rfl)
theorem dX10_iterator_8 : decode cX10_iterator 8 = .ok (.areturn, 1) := dk_176 (dk_at dksX10_iterator_0 8 rfl rfl)
abbrev cX10_middle : ByteArray := prog_3_method_8_code
def yX10_middle : MethodName := ⟨RX10, "middle", "()LFlockHuts$Placed;"⟩
def dkwX10_middle_3 : List UInt8 := [182, 0, 65, 108, 184, 0, 68, 176]
abbrev dktX10_middle_3 : List UInt8 := dkwX10_middle_3 ++ []
def dkwX10_middle_2 : List UInt8 := [180, 0, 38, 25, 4, 180, 0, 62, 104, 96, 61, 167, 255, 208, 27, 42, 182, 0, 65, 108, 28, 42]
abbrev dktX10_middle_2 : List UInt8 := dkwX10_middle_2 ++ dktX10_middle_3
def dkwX10_middle_1 : List UInt8 := [192, 0, 36, 58, 4, 27, 25, 4, 180, 0, 38, 25, 4, 180, 0, 59, 104, 96, 60, 28, 25, 4]
abbrev dktX10_middle_1 : List UInt8 := dkwX10_middle_1 ++ dktX10_middle_2
def dkwX10_middle_0 : List UInt8 := [3, 60, 3, 61, 42, 182, 0, 22, 78, 45, 185, 0, 26, 1, 0, 153, 0, 45, 45, 185, 0, 32, 1, 0]
abbrev dktX10_middle_0 : List UInt8 := dkwX10_middle_0 ++ dktX10_middle_1
theorem dksX10_middle_0 : cX10_middle.data.toList.drop 0 = dktX10_middle_0 := by decide +kernel
theorem dksX10_middle_1 : cX10_middle.data.toList.drop 24 = dktX10_middle_1 := dk_seg dksX10_middle_0 24 rfl rfl
theorem dksX10_middle_2 : cX10_middle.data.toList.drop 46 = dktX10_middle_2 := dk_seg dksX10_middle_1 22 rfl rfl
theorem dksX10_middle_3 : cX10_middle.data.toList.drop 68 = dktX10_middle_3 := dk_seg dksX10_middle_2 22 rfl rfl
theorem dX10_middle_0 : decode cX10_middle 0 = .ok (.iconst 0, 1) := dk_3 (dk_at dksX10_middle_0 0 rfl rfl)
theorem dX10_middle_1 : decode cX10_middle 1 = .ok (.istore_n 1, 1) := dk_60 (dk_at dksX10_middle_0 1 rfl rfl)
theorem dX10_middle_2 : decode cX10_middle 2 = .ok (.iconst 0, 1) := dk_3 (dk_at dksX10_middle_0 2 rfl rfl)
theorem dX10_middle_3 : decode cX10_middle 3 = .ok (.istore_n 2, 1) := dk_61 (dk_at dksX10_middle_0 3 rfl rfl)
theorem dX10_middle_4 : decode cX10_middle 4 = .ok (.aload_n 0, 1) := dk_42 (dk_at dksX10_middle_0 4 rfl rfl)
theorem dX10_middle_5 : decode cX10_middle 5 = .ok (.invokevirtual 22, 3) := dk_182 0 22 (dk_at dksX10_middle_0 5 rfl rfl)
theorem dX10_middle_8 : decode cX10_middle 8 = .ok (.astore_n 3, 1) := dk_78 (dk_at dksX10_middle_0 8 rfl rfl)
theorem dX10_middle_9 : decode cX10_middle 9 = .ok (.aload_n 3, 1) := dk_45 (dk_at dksX10_middle_0 9 rfl rfl)
theorem dX10_middle_10 : decode cX10_middle 10 = .ok (.invokeinterface 26 1, 5) := by decide +kernel
theorem dX10_middle_15 : decode cX10_middle 15 = .ok (.ifCond .eq 45, 3) := dk_153 0 45 (dk_at dksX10_middle_0 15 rfl rfl)
theorem dX10_middle_18 : decode cX10_middle 18 = .ok (.aload_n 3, 1) := dk_45 (dk_at dksX10_middle_0 18 rfl rfl)
theorem dX10_middle_19 : decode cX10_middle 19 = .ok (.invokeinterface 32 1, 5) := by decide +kernel
theorem dX10_middle_24 : decode cX10_middle 24 = .ok (.checkcast 36, 3) := dk_192 0 36 (dk_at dksX10_middle_1 0 rfl rfl)
theorem dX10_middle_27 : decode cX10_middle 27 = .ok (.astore 4, 2) := dk_58 4 (dk_at dksX10_middle_1 3 rfl rfl)
theorem dX10_middle_29 : decode cX10_middle 29 = .ok (.iload_n 1, 1) := dk_27 (dk_at dksX10_middle_1 5 rfl rfl)
theorem dX10_middle_30 : decode cX10_middle 30 = .ok (.aload 4, 2) := dk_25 4 (dk_at dksX10_middle_1 6 rfl rfl)
theorem dX10_middle_32 : decode cX10_middle 32 = .ok (.getfield 38, 3) := dk_180 0 38 (dk_at dksX10_middle_1 8 rfl rfl)
theorem dX10_middle_35 : decode cX10_middle 35 = .ok (.aload 4, 2) := dk_25 4 (dk_at dksX10_middle_1 11 rfl rfl)
theorem dX10_middle_37 : decode cX10_middle 37 = .ok (.getfield 59, 3) := dk_180 0 59 (dk_at dksX10_middle_1 13 rfl rfl)
theorem dX10_middle_40 : decode cX10_middle 40 = .ok (.imul, 1) := dk_104 (dk_at dksX10_middle_1 16 rfl rfl)
theorem dX10_middle_41 : decode cX10_middle 41 = .ok (.iadd, 1) := dk_96 (dk_at dksX10_middle_1 17 rfl rfl)
theorem dX10_middle_42 : decode cX10_middle 42 = .ok (.istore_n 1, 1) := dk_60 (dk_at dksX10_middle_1 18 rfl rfl)
theorem dX10_middle_43 : decode cX10_middle 43 = .ok (.iload_n 2, 1) := dk_28 (dk_at dksX10_middle_1 19 rfl rfl)
theorem dX10_middle_44 : decode cX10_middle 44 = .ok (.aload 4, 2) := dk_25 4 (dk_at dksX10_middle_1 20 rfl rfl)
theorem dX10_middle_46 : decode cX10_middle 46 = .ok (.getfield 38, 3) := dk_180 0 38 (dk_at dksX10_middle_2 0 rfl rfl)
theorem dX10_middle_49 : decode cX10_middle 49 = .ok (.aload 4, 2) := dk_25 4 (dk_at dksX10_middle_2 3 rfl rfl)
theorem dX10_middle_51 : decode cX10_middle 51 = .ok (.getfield 62, 3) := dk_180 0 62 (dk_at dksX10_middle_2 5 rfl rfl)
theorem dX10_middle_54 : decode cX10_middle 54 = .ok (.imul, 1) := dk_104 (dk_at dksX10_middle_2 8 rfl rfl)
theorem dX10_middle_55 : decode cX10_middle 55 = .ok (.iadd, 1) := dk_96 (dk_at dksX10_middle_2 9 rfl rfl)
theorem dX10_middle_56 : decode cX10_middle 56 = .ok (.istore_n 2, 1) := dk_61 (dk_at dksX10_middle_2 10 rfl rfl)
theorem dX10_middle_57 : decode cX10_middle 57 = .ok (.goto (-48), 3) := dk_167 255 208 (dk_at dksX10_middle_2 11 rfl rfl)
theorem dX10_middle_60 : decode cX10_middle 60 = .ok (.iload_n 1, 1) := dk_27 (dk_at dksX10_middle_2 14 rfl rfl)
theorem dX10_middle_61 : decode cX10_middle 61 = .ok (.aload_n 0, 1) := dk_42 (dk_at dksX10_middle_2 15 rfl rfl)
theorem dX10_middle_62 : decode cX10_middle 62 = .ok (.invokevirtual 65, 3) := dk_182 0 65 (dk_at dksX10_middle_2 16 rfl rfl)
theorem dX10_middle_65 : decode cX10_middle 65 = .ok (.idiv, 1) := dk_108 (dk_at dksX10_middle_2 19 rfl rfl)
theorem dX10_middle_66 : decode cX10_middle 66 = .ok (.iload_n 2, 1) := dk_28 (dk_at dksX10_middle_2 20 rfl rfl)
theorem dX10_middle_67 : decode cX10_middle 67 = .ok (.aload_n 0, 1) := dk_42 (dk_at dksX10_middle_2 21 rfl rfl)
theorem dX10_middle_68 : decode cX10_middle 68 = .ok (.invokevirtual 65, 3) := dk_182 0 65 (dk_at dksX10_middle_3 0 rfl rfl)
theorem dX10_middle_71 : decode cX10_middle 71 = .ok (.idiv, 1) := dk_108 (dk_at dksX10_middle_3 3 rfl rfl)
theorem dX10_middle_72 : decode cX10_middle 72 = .ok (.invokestatic 68, 3) := dk_184 0 68 (dk_at dksX10_middle_3 4 rfl rfl)
theorem dX10_middle_75 : decode cX10_middle 75 = .ok (.areturn, 1) := dk_176 (dk_at dksX10_middle_3 7 rfl rfl)
abbrev cX10_weight : ByteArray := prog_3_method_4_code
def yX10_weight : MethodName := ⟨RX10, "weight", "()I"⟩
def dkwX10_weight_1 : List UInt8 := [192, 0, 36, 78, 27, 45, 180, 0, 38, 96, 60, 167, 255, 230, 27, 172]
abbrev dktX10_weight_1 : List UInt8 := dkwX10_weight_1 ++ []
def dkwX10_weight_0 : List UInt8 := [3, 60, 42, 182, 0, 22, 77, 44, 185, 0, 26, 1, 0, 153, 0, 23, 44, 185, 0, 32, 1, 0]
abbrev dktX10_weight_0 : List UInt8 := dkwX10_weight_0 ++ dktX10_weight_1
theorem dksX10_weight_0 : cX10_weight.data.toList.drop 0 = dktX10_weight_0 := by decide +kernel
theorem dksX10_weight_1 : cX10_weight.data.toList.drop 22 = dktX10_weight_1 := dk_seg dksX10_weight_0 22 rfl rfl
theorem dX10_weight_0 : decode cX10_weight 0 = .ok (.iconst 0, 1) := dk_3 (dk_at dksX10_weight_0 0 rfl rfl)
theorem dX10_weight_1 : decode cX10_weight 1 = .ok (.istore_n 1, 1) := dk_60 (dk_at dksX10_weight_0 1 rfl rfl)
theorem dX10_weight_2 : decode cX10_weight 2 = .ok (.aload_n 0, 1) := dk_42 (dk_at dksX10_weight_0 2 rfl rfl)
theorem dX10_weight_3 : decode cX10_weight 3 = .ok (.invokevirtual 22, 3) := dk_182 0 22 (dk_at dksX10_weight_0 3 rfl rfl)
theorem dX10_weight_6 : decode cX10_weight 6 = .ok (.astore_n 2, 1) := dk_77 (dk_at dksX10_weight_0 6 rfl rfl)
theorem dX10_weight_7 : decode cX10_weight 7 = .ok (.aload_n 2, 1) := dk_44 (dk_at dksX10_weight_0 7 rfl rfl)
theorem dX10_weight_8 : decode cX10_weight 8 = .ok (.invokeinterface 26 1, 5) := by decide +kernel
theorem dX10_weight_13 : decode cX10_weight 13 = .ok (.ifCond .eq 23, 3) := dk_153 0 23 (dk_at dksX10_weight_0 13 rfl rfl)
theorem dX10_weight_16 : decode cX10_weight 16 = .ok (.aload_n 2, 1) := dk_44 (dk_at dksX10_weight_0 16 rfl rfl)
theorem dX10_weight_17 : decode cX10_weight 17 = .ok (.invokeinterface 32 1, 5) := by decide +kernel
theorem dX10_weight_22 : decode cX10_weight 22 = .ok (.checkcast 36, 3) := dk_192 0 36 (dk_at dksX10_weight_1 0 rfl rfl)
theorem dX10_weight_25 : decode cX10_weight 25 = .ok (.astore_n 3, 1) := dk_78 (dk_at dksX10_weight_1 3 rfl rfl)
theorem dX10_weight_26 : decode cX10_weight 26 = .ok (.iload_n 1, 1) := dk_27 (dk_at dksX10_weight_1 4 rfl rfl)
theorem dX10_weight_27 : decode cX10_weight 27 = .ok (.aload_n 3, 1) := dk_45 (dk_at dksX10_weight_1 5 rfl rfl)
theorem dX10_weight_28 : decode cX10_weight 28 = .ok (.getfield 38, 3) := dk_180 0 38 (dk_at dksX10_weight_1 6 rfl rfl)
theorem dX10_weight_31 : decode cX10_weight 31 = .ok (.iadd, 1) := dk_96 (dk_at dksX10_weight_1 9 rfl rfl)
theorem dX10_weight_32 : decode cX10_weight 32 = .ok (.istore_n 1, 1) := dk_60 (dk_at dksX10_weight_1 10 rfl rfl)
theorem dX10_weight_33 : decode cX10_weight 33 = .ok (.goto (-26), 3) := dk_167 255 230 (dk_at dksX10_weight_1 11 rfl rfl)
theorem dX10_weight_36 : decode cX10_weight 36 = .ok (.iload_n 1, 1) := dk_27 (dk_at dksX10_weight_1 14 rfl rfl)
theorem dX10_weight_37 : decode cX10_weight 37 = .ok (.ireturn, 1) := dk_172 (dk_at dksX10_weight_1 15 rfl rfl)
abbrev cX10_spread : ByteArray := prog_3_method_5_code
def yX10_spread : MethodName := ⟨RX10, "spread", "()I"⟩
def dkwX10_spread_2 : List UInt8 := [192, 0, 53, 182, 0, 55, 104, 96, 60, 167, 255, 208, 27, 172]
abbrev dktX10_spread_2 : List UInt8 := dkwX10_spread_2 ++ []
def dkwX10_spread_1 : List UInt8 := [192, 0, 36, 78, 27, 45, 180, 0, 38, 45, 42, 180, 0, 1, 180, 0, 41, 42, 180, 0, 13, 182, 0, 47]
abbrev dktX10_spread_1 : List UInt8 := dkwX10_spread_1 ++ dktX10_spread_2
def dkwX10_spread_0 : List UInt8 := [3, 60, 42, 182, 0, 22, 77, 44, 185, 0, 26, 1, 0, 153, 0, 45, 44, 185, 0, 32, 1, 0]
abbrev dktX10_spread_0 : List UInt8 := dkwX10_spread_0 ++ dktX10_spread_1
theorem dksX10_spread_0 : cX10_spread.data.toList.drop 0 = dktX10_spread_0 := by decide +kernel
theorem dksX10_spread_1 : cX10_spread.data.toList.drop 22 = dktX10_spread_1 := dk_seg dksX10_spread_0 22 rfl rfl
theorem dksX10_spread_2 : cX10_spread.data.toList.drop 46 = dktX10_spread_2 := dk_seg dksX10_spread_1 24 rfl rfl
theorem dX10_spread_0 : decode cX10_spread 0 = .ok (.iconst 0, 1) := dk_3 (dk_at dksX10_spread_0 0 rfl rfl)
theorem dX10_spread_1 : decode cX10_spread 1 = .ok (.istore_n 1, 1) := dk_60 (dk_at dksX10_spread_0 1 rfl rfl)
theorem dX10_spread_2 : decode cX10_spread 2 = .ok (.aload_n 0, 1) := dk_42 (dk_at dksX10_spread_0 2 rfl rfl)
theorem dX10_spread_3 : decode cX10_spread 3 = .ok (.invokevirtual 22, 3) := dk_182 0 22 (dk_at dksX10_spread_0 3 rfl rfl)
theorem dX10_spread_6 : decode cX10_spread 6 = .ok (.astore_n 2, 1) := dk_77 (dk_at dksX10_spread_0 6 rfl rfl)
theorem dX10_spread_7 : decode cX10_spread 7 = .ok (.aload_n 2, 1) := dk_44 (dk_at dksX10_spread_0 7 rfl rfl)
theorem dX10_spread_8 : decode cX10_spread 8 = .ok (.invokeinterface 26 1, 5) := by decide +kernel
theorem dX10_spread_13 : decode cX10_spread 13 = .ok (.ifCond .eq 45, 3) := dk_153 0 45 (dk_at dksX10_spread_0 13 rfl rfl)
theorem dX10_spread_16 : decode cX10_spread 16 = .ok (.aload_n 2, 1) := dk_44 (dk_at dksX10_spread_0 16 rfl rfl)
theorem dX10_spread_17 : decode cX10_spread 17 = .ok (.invokeinterface 32 1, 5) := by decide +kernel
theorem dX10_spread_22 : decode cX10_spread 22 = .ok (.checkcast 36, 3) := dk_192 0 36 (dk_at dksX10_spread_1 0 rfl rfl)
theorem dX10_spread_25 : decode cX10_spread 25 = .ok (.astore_n 3, 1) := dk_78 (dk_at dksX10_spread_1 3 rfl rfl)
theorem dX10_spread_26 : decode cX10_spread 26 = .ok (.iload_n 1, 1) := dk_27 (dk_at dksX10_spread_1 4 rfl rfl)
theorem dX10_spread_27 : decode cX10_spread 27 = .ok (.aload_n 3, 1) := dk_45 (dk_at dksX10_spread_1 5 rfl rfl)
theorem dX10_spread_28 : decode cX10_spread 28 = .ok (.getfield 38, 3) := dk_180 0 38 (dk_at dksX10_spread_1 6 rfl rfl)
theorem dX10_spread_31 : decode cX10_spread 31 = .ok (.aload_n 3, 1) := dk_45 (dk_at dksX10_spread_1 9 rfl rfl)
theorem dX10_spread_32 : decode cX10_spread 32 = .ok (.aload_n 0, 1) := dk_42 (dk_at dksX10_spread_1 10 rfl rfl)
theorem dX10_spread_33 : decode cX10_spread 33 = .ok (.getfield 1, 3) := dk_180 0 1 (dk_at dksX10_spread_1 11 rfl rfl)
theorem dX10_spread_36 : decode cX10_spread 36 = .ok (.getfield 41, 3) := dk_180 0 41 (dk_at dksX10_spread_1 14 rfl rfl)
theorem dX10_spread_39 : decode cX10_spread 39 = .ok (.aload_n 0, 1) := dk_42 (dk_at dksX10_spread_1 17 rfl rfl)
theorem dX10_spread_40 : decode cX10_spread 40 = .ok (.getfield 13, 3) := dk_180 0 13 (dk_at dksX10_spread_1 18 rfl rfl)
theorem dX10_spread_43 : decode cX10_spread 43 = .ok (.invokevirtual 47, 3) := dk_182 0 47 (dk_at dksX10_spread_1 21 rfl rfl)
theorem dX10_spread_46 : decode cX10_spread 46 = .ok (.checkcast 53, 3) := dk_192 0 53 (dk_at dksX10_spread_2 0 rfl rfl)
theorem dX10_spread_49 : decode cX10_spread 49 = .ok (.invokevirtual 55, 3) := dk_182 0 55 (dk_at dksX10_spread_2 3 rfl rfl)
theorem dX10_spread_52 : decode cX10_spread 52 = .ok (.imul, 1) := dk_104 (dk_at dksX10_spread_2 6 rfl rfl)
theorem dX10_spread_53 : decode cX10_spread 53 = .ok (.iadd, 1) := dk_96 (dk_at dksX10_spread_2 7 rfl rfl)
theorem dX10_spread_54 : decode cX10_spread 54 = .ok (.istore_n 1, 1) := dk_60 (dk_at dksX10_spread_2 8 rfl rfl)
theorem dX10_spread_55 : decode cX10_spread 55 = .ok (.goto (-48), 3) := dk_167 255 208 (dk_at dksX10_spread_2 9 rfl rfl)
theorem dX10_spread_58 : decode cX10_spread 58 = .ok (.iload_n 1, 1) := dk_27 (dk_at dksX10_spread_2 12 rfl rfl)
theorem dX10_spread_59 : decode cX10_spread 59 = .ok (.ireturn, 1) := dk_172 (dk_at dksX10_spread_2 13 rfl rfl)
abbrev cX10_count : ByteArray := prog_3_method_3_code
def yX10_count : MethodName := ⟨RX10, "count", "()I"⟩
def dkwX10_count_1 : List UInt8 := [192, 0, 36, 78, 132, 1, 1, 167, 255, 234, 27, 172]
abbrev dktX10_count_1 : List UInt8 := dkwX10_count_1 ++ []
def dkwX10_count_0 : List UInt8 := [3, 60, 42, 182, 0, 22, 77, 44, 185, 0, 26, 1, 0, 153, 0, 19, 44, 185, 0, 32, 1, 0]
abbrev dktX10_count_0 : List UInt8 := dkwX10_count_0 ++ dktX10_count_1
theorem dksX10_count_0 : cX10_count.data.toList.drop 0 = dktX10_count_0 := by decide +kernel
theorem dksX10_count_1 : cX10_count.data.toList.drop 22 = dktX10_count_1 := dk_seg dksX10_count_0 22 rfl rfl
theorem dX10_count_0 : decode cX10_count 0 = .ok (.iconst 0, 1) := dk_3 (dk_at dksX10_count_0 0 rfl rfl)
theorem dX10_count_1 : decode cX10_count 1 = .ok (.istore_n 1, 1) := dk_60 (dk_at dksX10_count_0 1 rfl rfl)
theorem dX10_count_2 : decode cX10_count 2 = .ok (.aload_n 0, 1) := dk_42 (dk_at dksX10_count_0 2 rfl rfl)
theorem dX10_count_3 : decode cX10_count 3 = .ok (.invokevirtual 22, 3) := dk_182 0 22 (dk_at dksX10_count_0 3 rfl rfl)
theorem dX10_count_6 : decode cX10_count 6 = .ok (.astore_n 2, 1) := dk_77 (dk_at dksX10_count_0 6 rfl rfl)
theorem dX10_count_7 : decode cX10_count 7 = .ok (.aload_n 2, 1) := dk_44 (dk_at dksX10_count_0 7 rfl rfl)
theorem dX10_count_8 : decode cX10_count 8 = .ok (.invokeinterface 26 1, 5) := by decide +kernel
theorem dX10_count_13 : decode cX10_count 13 = .ok (.ifCond .eq 19, 3) := dk_153 0 19 (dk_at dksX10_count_0 13 rfl rfl)
theorem dX10_count_16 : decode cX10_count 16 = .ok (.aload_n 2, 1) := dk_44 (dk_at dksX10_count_0 16 rfl rfl)
theorem dX10_count_17 : decode cX10_count 17 = .ok (.invokeinterface 32 1, 5) := by decide +kernel
theorem dX10_count_22 : decode cX10_count 22 = .ok (.checkcast 36, 3) := dk_192 0 36 (dk_at dksX10_count_1 0 rfl rfl)
theorem dX10_count_25 : decode cX10_count 25 = .ok (.astore_n 3, 1) := dk_78 (dk_at dksX10_count_1 3 rfl rfl)
theorem dX10_count_26 : decode cX10_count 26 = .ok (.iinc 1 1, 3) := dk_132 1 1 (dk_at dksX10_count_1 4 rfl rfl)
theorem dX10_count_29 : decode cX10_count 29 = .ok (.goto (-22), 3) := dk_167 255 234 (dk_at dksX10_count_1 7 rfl rfl)
theorem dX10_count_32 : decode cX10_count 32 = .ok (.iload_n 1, 1) := dk_27 (dk_at dksX10_count_1 10 rfl rfl)
theorem dX10_count_33 : decode cX10_count 33 = .ok (.ireturn, 1) := dk_172 (dk_at dksX10_count_1 11 rfl rfl)
abbrev cX10_farthest : ByteArray := prog_3_method_7_code
def yX10_farthest : MethodName := ⟨RX10, "farthest", "()LFlockHuts$Sheep;"⟩
def dkwX10_farthest_4 : List UInt8 := [167, 255, 170, 43, 176]
abbrev dktX10_farthest_4 : List UInt8 := dkwX10_farthest_4 ++ []
def dkwX10_farthest_3 : List UInt8 := [182, 0, 55, 164, 0, 7, 4, 167, 0, 4, 3, 54, 4, 21, 4, 153, 0, 7, 45, 167, 0, 4, 43, 76]
abbrev dktX10_farthest_3 : List UInt8 := dkwX10_farthest_3 ++ dktX10_farthest_4
def dkwX10_farthest_2 : List UInt8 := [192, 0, 53, 182, 0, 55, 43, 42, 180, 0, 1, 180, 0, 41, 42, 180, 0, 13, 182, 0, 47, 192, 0, 53]
abbrev dktX10_farthest_2 : List UInt8 := dkwX10_farthest_2 ++ dktX10_farthest_3
def dkwX10_farthest_1 : List UInt8 := [192, 0, 36, 78, 43, 198, 0, 48, 45, 42, 180, 0, 1, 180, 0, 41, 42, 180, 0, 13, 182, 0, 47]
abbrev dktX10_farthest_1 : List UInt8 := dkwX10_farthest_1 ++ dktX10_farthest_2
def dkwX10_farthest_0 : List UInt8 := [1, 76, 42, 182, 0, 22, 77, 44, 185, 0, 26, 1, 0, 153, 0, 83, 44, 185, 0, 32, 1, 0]
abbrev dktX10_farthest_0 : List UInt8 := dkwX10_farthest_0 ++ dktX10_farthest_1
theorem dksX10_farthest_0 : cX10_farthest.data.toList.drop 0 = dktX10_farthest_0 := by decide +kernel
theorem dksX10_farthest_1 : cX10_farthest.data.toList.drop 22 = dktX10_farthest_1 := dk_seg dksX10_farthest_0 22 rfl rfl
theorem dksX10_farthest_2 : cX10_farthest.data.toList.drop 45 = dktX10_farthest_2 := dk_seg dksX10_farthest_1 23 rfl rfl
theorem dksX10_farthest_3 : cX10_farthest.data.toList.drop 69 = dktX10_farthest_3 := dk_seg dksX10_farthest_2 24 rfl rfl
theorem dksX10_farthest_4 : cX10_farthest.data.toList.drop 93 = dktX10_farthest_4 := dk_seg dksX10_farthest_3 24 rfl rfl
theorem dX10_farthest_0 : decode cX10_farthest 0 = .ok (.aconst_null, 1) := dk_1 (dk_at dksX10_farthest_0 0 rfl rfl)
theorem dX10_farthest_1 : decode cX10_farthest 1 = .ok (.astore_n 1, 1) := dk_76 (dk_at dksX10_farthest_0 1 rfl rfl)
theorem dX10_farthest_2 : decode cX10_farthest 2 = .ok (.aload_n 0, 1) := dk_42 (dk_at dksX10_farthest_0 2 rfl rfl)
theorem dX10_farthest_3 : decode cX10_farthest 3 = .ok (.invokevirtual 22, 3) := dk_182 0 22 (dk_at dksX10_farthest_0 3 rfl rfl)
theorem dX10_farthest_6 : decode cX10_farthest 6 = .ok (.astore_n 2, 1) := dk_77 (dk_at dksX10_farthest_0 6 rfl rfl)
theorem dX10_farthest_7 : decode cX10_farthest 7 = .ok (.aload_n 2, 1) := dk_44 (dk_at dksX10_farthest_0 7 rfl rfl)
theorem dX10_farthest_8 : decode cX10_farthest 8 = .ok (.invokeinterface 26 1, 5) := by decide +kernel
theorem dX10_farthest_13 : decode cX10_farthest 13 = .ok (.ifCond .eq 83, 3) := dk_153 0 83 (dk_at dksX10_farthest_0 13 rfl rfl)
theorem dX10_farthest_16 : decode cX10_farthest 16 = .ok (.aload_n 2, 1) := dk_44 (dk_at dksX10_farthest_0 16 rfl rfl)
theorem dX10_farthest_17 : decode cX10_farthest 17 = .ok (.invokeinterface 32 1, 5) := by decide +kernel
theorem dX10_farthest_22 : decode cX10_farthest 22 = .ok (.checkcast 36, 3) := dk_192 0 36 (dk_at dksX10_farthest_1 0 rfl rfl)
theorem dX10_farthest_25 : decode cX10_farthest 25 = .ok (.astore_n 3, 1) := dk_78 (dk_at dksX10_farthest_1 3 rfl rfl)
theorem dX10_farthest_26 : decode cX10_farthest 26 = .ok (.aload_n 1, 1) := dk_43 (dk_at dksX10_farthest_1 4 rfl rfl)
theorem dX10_farthest_27 : decode cX10_farthest 27 = .ok (.ifnull 48, 3) := dk_198 0 48 (dk_at dksX10_farthest_1 5 rfl rfl)
theorem dX10_farthest_30 : decode cX10_farthest 30 = .ok (.aload_n 3, 1) := dk_45 (dk_at dksX10_farthest_1 8 rfl rfl)
theorem dX10_farthest_31 : decode cX10_farthest 31 = .ok (.aload_n 0, 1) := dk_42 (dk_at dksX10_farthest_1 9 rfl rfl)
theorem dX10_farthest_32 : decode cX10_farthest 32 = .ok (.getfield 1, 3) := dk_180 0 1 (dk_at dksX10_farthest_1 10 rfl rfl)
theorem dX10_farthest_35 : decode cX10_farthest 35 = .ok (.getfield 41, 3) := dk_180 0 41 (dk_at dksX10_farthest_1 13 rfl rfl)
theorem dX10_farthest_38 : decode cX10_farthest 38 = .ok (.aload_n 0, 1) := dk_42 (dk_at dksX10_farthest_1 16 rfl rfl)
theorem dX10_farthest_39 : decode cX10_farthest 39 = .ok (.getfield 13, 3) := dk_180 0 13 (dk_at dksX10_farthest_1 17 rfl rfl)
theorem dX10_farthest_42 : decode cX10_farthest 42 = .ok (.invokevirtual 47, 3) := dk_182 0 47 (dk_at dksX10_farthest_1 20 rfl rfl)
theorem dX10_farthest_45 : decode cX10_farthest 45 = .ok (.checkcast 53, 3) := dk_192 0 53 (dk_at dksX10_farthest_2 0 rfl rfl)
theorem dX10_farthest_48 : decode cX10_farthest 48 = .ok (.invokevirtual 55, 3) := dk_182 0 55 (dk_at dksX10_farthest_2 3 rfl rfl)
theorem dX10_farthest_51 : decode cX10_farthest 51 = .ok (.aload_n 1, 1) := dk_43 (dk_at dksX10_farthest_2 6 rfl rfl)
theorem dX10_farthest_52 : decode cX10_farthest 52 = .ok (.aload_n 0, 1) := dk_42 (dk_at dksX10_farthest_2 7 rfl rfl)
theorem dX10_farthest_53 : decode cX10_farthest 53 = .ok (.getfield 1, 3) := dk_180 0 1 (dk_at dksX10_farthest_2 8 rfl rfl)
theorem dX10_farthest_56 : decode cX10_farthest 56 = .ok (.getfield 41, 3) := dk_180 0 41 (dk_at dksX10_farthest_2 11 rfl rfl)
theorem dX10_farthest_59 : decode cX10_farthest 59 = .ok (.aload_n 0, 1) := dk_42 (dk_at dksX10_farthest_2 14 rfl rfl)
theorem dX10_farthest_60 : decode cX10_farthest 60 = .ok (.getfield 13, 3) := dk_180 0 13 (dk_at dksX10_farthest_2 15 rfl rfl)
theorem dX10_farthest_63 : decode cX10_farthest 63 = .ok (.invokevirtual 47, 3) := dk_182 0 47 (dk_at dksX10_farthest_2 18 rfl rfl)
theorem dX10_farthest_66 : decode cX10_farthest 66 = .ok (.checkcast 53, 3) := dk_192 0 53 (dk_at dksX10_farthest_2 21 rfl rfl)
theorem dX10_farthest_69 : decode cX10_farthest 69 = .ok (.invokevirtual 55, 3) := dk_182 0 55 (dk_at dksX10_farthest_3 0 rfl rfl)
theorem dX10_farthest_72 : decode cX10_farthest 72 = .ok (.if_icmp .le 7, 3) := dk_164 0 7 (dk_at dksX10_farthest_3 3 rfl rfl)
theorem dX10_farthest_75 : decode cX10_farthest 75 = .ok (.iconst 1, 1) := dk_4 (dk_at dksX10_farthest_3 6 rfl rfl)
theorem dX10_farthest_76 : decode cX10_farthest 76 = .ok (.goto 4, 3) := dk_167 0 4 (dk_at dksX10_farthest_3 7 rfl rfl)
theorem dX10_farthest_79 : decode cX10_farthest 79 = .ok (.iconst 0, 1) := dk_3 (dk_at dksX10_farthest_3 10 rfl rfl)
theorem dX10_farthest_80 : decode cX10_farthest 80 = .ok (.istore 4, 2) := dk_54 4 (dk_at dksX10_farthest_3 11 rfl rfl)
theorem dX10_farthest_82 : decode cX10_farthest 82 = .ok (.iload 4, 2) := dk_21 4 (dk_at dksX10_farthest_3 13 rfl rfl)
theorem dX10_farthest_84 : decode cX10_farthest 84 = .ok (.ifCond .eq 7, 3) := dk_153 0 7 (dk_at dksX10_farthest_3 15 rfl rfl)
theorem dX10_farthest_87 : decode cX10_farthest 87 = .ok (.aload_n 3, 1) := dk_45 (dk_at dksX10_farthest_3 18 rfl rfl)
theorem dX10_farthest_88 : decode cX10_farthest 88 = .ok (.goto 4, 3) := dk_167 0 4 (dk_at dksX10_farthest_3 19 rfl rfl)
theorem dX10_farthest_91 : decode cX10_farthest 91 = .ok (.aload_n 1, 1) := dk_43 (dk_at dksX10_farthest_3 22 rfl rfl)
theorem dX10_farthest_92 : decode cX10_farthest 92 = .ok (.astore_n 1, 1) := dk_76 (dk_at dksX10_farthest_3 23 rfl rfl)
theorem dX10_farthest_93 : decode cX10_farthest 93 = .ok (.goto (-86), 3) := dk_167 255 170 (dk_at dksX10_farthest_4 0 rfl rfl)
theorem dX10_farthest_96 : decode cX10_farthest 96 = .ok (.aload_n 1, 1) := dk_43 (dk_at dksX10_farthest_4 3 rfl rfl)
theorem dX10_farthest_97 : decode cX10_farthest 97 = .ok (.areturn, 1) := dk_176 (dk_at dksX10_farthest_4 4 rfl rfl)
abbrev cX10_distances : ByteArray := prog_3_method_6_code
def yX10_distances : MethodName := ⟨RX10, "distances", "()I"⟩
def dkwX10_distances_2 : List UInt8 := [182, 0, 55, 96, 60, 167, 255, 213, 27, 172]
abbrev dktX10_distances_2 : List UInt8 := dkwX10_distances_2 ++ []
def dkwX10_distances_1 : List UInt8 := [192, 0, 36, 78, 27, 45, 42, 180, 0, 1, 180, 0, 41, 42, 180, 0, 13, 182, 0, 47, 192, 0, 53]
abbrev dktX10_distances_1 : List UInt8 := dkwX10_distances_1 ++ dktX10_distances_2
def dkwX10_distances_0 : List UInt8 := [3, 60, 42, 182, 0, 22, 77, 44, 185, 0, 26, 1, 0, 153, 0, 40, 44, 185, 0, 32, 1, 0]
abbrev dktX10_distances_0 : List UInt8 := dkwX10_distances_0 ++ dktX10_distances_1
theorem dksX10_distances_0 : cX10_distances.data.toList.drop 0 = dktX10_distances_0 := by decide +kernel
theorem dksX10_distances_1 : cX10_distances.data.toList.drop 22 = dktX10_distances_1 := dk_seg dksX10_distances_0 22 rfl rfl
theorem dksX10_distances_2 : cX10_distances.data.toList.drop 45 = dktX10_distances_2 := dk_seg dksX10_distances_1 23 rfl rfl
theorem dX10_distances_0 : decode cX10_distances 0 = .ok (.iconst 0, 1) := dk_3 (dk_at dksX10_distances_0 0 rfl rfl)
theorem dX10_distances_1 : decode cX10_distances 1 = .ok (.istore_n 1, 1) := dk_60 (dk_at dksX10_distances_0 1 rfl rfl)
theorem dX10_distances_2 : decode cX10_distances 2 = .ok (.aload_n 0, 1) := dk_42 (dk_at dksX10_distances_0 2 rfl rfl)
theorem dX10_distances_3 : decode cX10_distances 3 = .ok (.invokevirtual 22, 3) := dk_182 0 22 (dk_at dksX10_distances_0 3 rfl rfl)
theorem dX10_distances_6 : decode cX10_distances 6 = .ok (.astore_n 2, 1) := dk_77 (dk_at dksX10_distances_0 6 rfl rfl)
theorem dX10_distances_7 : decode cX10_distances 7 = .ok (.aload_n 2, 1) := dk_44 (dk_at dksX10_distances_0 7 rfl rfl)
theorem dX10_distances_8 : decode cX10_distances 8 = .ok (.invokeinterface 26 1, 5) := by decide +kernel
theorem dX10_distances_13 : decode cX10_distances 13 = .ok (.ifCond .eq 40, 3) := dk_153 0 40 (dk_at dksX10_distances_0 13 rfl rfl)
theorem dX10_distances_16 : decode cX10_distances 16 = .ok (.aload_n 2, 1) := dk_44 (dk_at dksX10_distances_0 16 rfl rfl)
theorem dX10_distances_17 : decode cX10_distances 17 = .ok (.invokeinterface 32 1, 5) := by decide +kernel
theorem dX10_distances_22 : decode cX10_distances 22 = .ok (.checkcast 36, 3) := dk_192 0 36 (dk_at dksX10_distances_1 0 rfl rfl)
theorem dX10_distances_25 : decode cX10_distances 25 = .ok (.astore_n 3, 1) := dk_78 (dk_at dksX10_distances_1 3 rfl rfl)
theorem dX10_distances_26 : decode cX10_distances 26 = .ok (.iload_n 1, 1) := dk_27 (dk_at dksX10_distances_1 4 rfl rfl)
theorem dX10_distances_27 : decode cX10_distances 27 = .ok (.aload_n 3, 1) := dk_45 (dk_at dksX10_distances_1 5 rfl rfl)
theorem dX10_distances_28 : decode cX10_distances 28 = .ok (.aload_n 0, 1) := dk_42 (dk_at dksX10_distances_1 6 rfl rfl)
theorem dX10_distances_29 : decode cX10_distances 29 = .ok (.getfield 1, 3) := dk_180 0 1 (dk_at dksX10_distances_1 7 rfl rfl)
theorem dX10_distances_32 : decode cX10_distances 32 = .ok (.getfield 41, 3) := dk_180 0 41 (dk_at dksX10_distances_1 10 rfl rfl)
theorem dX10_distances_35 : decode cX10_distances 35 = .ok (.aload_n 0, 1) := dk_42 (dk_at dksX10_distances_1 13 rfl rfl)
theorem dX10_distances_36 : decode cX10_distances 36 = .ok (.getfield 13, 3) := dk_180 0 13 (dk_at dksX10_distances_1 14 rfl rfl)
theorem dX10_distances_39 : decode cX10_distances 39 = .ok (.invokevirtual 47, 3) := dk_182 0 47 (dk_at dksX10_distances_1 17 rfl rfl)
theorem dX10_distances_42 : decode cX10_distances 42 = .ok (.checkcast 53, 3) := dk_192 0 53 (dk_at dksX10_distances_1 20 rfl rfl)
theorem dX10_distances_45 : decode cX10_distances 45 = .ok (.invokevirtual 55, 3) := dk_182 0 55 (dk_at dksX10_distances_2 0 rfl rfl)
theorem dX10_distances_48 : decode cX10_distances 48 = .ok (.iadd, 1) := dk_96 (dk_at dksX10_distances_2 3 rfl rfl)
theorem dX10_distances_49 : decode cX10_distances 49 = .ok (.istore_n 1, 1) := dk_60 (dk_at dksX10_distances_2 4 rfl rfl)
theorem dX10_distances_50 : decode cX10_distances 50 = .ok (.goto (-43), 3) := dk_167 255 213 (dk_at dksX10_distances_2 5 rfl rfl)
theorem dX10_distances_53 : decode cX10_distances 53 = .ok (.iload_n 1, 1) := dk_27 (dk_at dksX10_distances_2 8 rfl rfl)
theorem dX10_distances_54 : decode cX10_distances 54 = .ok (.ireturn, 1) := dk_172 (dk_at dksX10_distances_2 9 rfl rfl)
theorem q110 : (Jvm.Cond.initialized "FlockHuts$Field$Flock") ∈ lw_all := lw_g (lw_at lw_m1 34 rfl) rfl
theorem q165 : (Jvm.Cond.fieldLinkNest "FlockHuts$Field$Flock" (41 : Nat) "FlockHuts$Field" "huts" "Ljava/util/ArrayList;" "FlockHuts") ∈ lw_tbl := lw_at lw_m1 89 rfl
theorem q468 : (Jvm.Cond.fieldLinkNest "FlockHuts$Field$Flock" (59 : Nat) "FlockHuts$Sheep" "x" "I" "FlockHuts") ∈ lw_tbl := lw_at lw_m2 152 rfl
theorem q472 : (Jvm.Cond.fieldLinkNest "FlockHuts$Field$Flock" (62 : Nat) "FlockHuts$Sheep" "y" "I" "FlockHuts") ∈ lw_tbl := lw_at lw_m2 156 rfl
theorem q476 : (Jvm.Cond.fieldLinkNest "FlockHuts$Field$Flock" (38 : Nat) "FlockHuts$Sheep" "weight" "I" "FlockHuts") ∈ lw_tbl := lw_at lw_m2 160 rfl
theorem q526 : (Jvm.Cond.selects "FlockHuts$Field$Flock" ({ cls := "java/lang/Object", name := "getClass", desc := "()Ljava/lang/Class;" } : Jvm.MethodName) ({ cls := "java/lang/Object", name := "getClass", desc := "()Ljava/lang/Class;" } : Jvm.MethodName)) ∈ lw_all := lw_g (lw_at lw_m2 210 rfl) rfl
theorem q664 : (Jvm.Cond.instantiable "FlockHuts$Field$Flock" (2 : Nat)) ∈ lw_all := lw_g (lw_at lw_m3 108 rfl) rfl
theorem q666 : (Jvm.Cond.instanceMethod ({ cls := "FlockHuts$Field$Flock", name := "<init>", desc := "(LFlockHuts$Field;I)V" } : Jvm.MethodName)) ∈ lw_all := lw_g (lw_at lw_m3 110 rfl) rfl
theorem q667 : (Jvm.Cond.code ({ cls := "FlockHuts$Field$Flock", name := "<init>", desc := "(LFlockHuts$Field;I)V" } : Jvm.MethodName) prog_3_method_1_code (3 : Nat) (Option.none : Option Jvm.ClassFile.FieldType)) ∈ lw_all := lw_g (lw_at lw_m3 111 rfl) rfl
theorem q668 : (Jvm.Cond.methodLink "FlockHuts$Field$Flock" (7 : Nat) ({ cls := "java/lang/Object", name := "<init>", desc := "()V" } : Jvm.MethodName)) ∈ lw_all := lw_g (lw_at lw_m3 112 rfl) rfl
theorem q669 : (Jvm.Cond.fieldLink "FlockHuts$Field$Flock" (13 : Nat) "FlockHuts$Field$Flock" "hut" "I") ∈ lw_all := lw_g (lw_at lw_m3 113 rfl) rfl
theorem q671 : (Jvm.Cond.fieldLink "FlockHuts$Field$Flock" (1 : Nat) "FlockHuts$Field$Flock" "this$0" "LFlockHuts$Field;") ∈ lw_all := lw_g (lw_at lw_m3 115 rfl) rfl
theorem q673 : (Jvm.Cond.laysFinal "FlockHuts$Field$Flock" "FlockHuts$Field$Flock" "hut" "I") ∈ lw_all := lw_g (lw_at lw_m3 117 rfl) rfl
theorem q674 : (Jvm.Cond.soleField "FlockHuts$Field$Flock" "hut") ∈ lw_all := lw_g (lw_at lw_m3 118 rfl) rfl
theorem q675 : (Jvm.Cond.laysFinal "FlockHuts$Field$Flock" "FlockHuts$Field$Flock" "this$0" "LFlockHuts$Field;") ∈ lw_all := lw_g (lw_at lw_m3 119 rfl) rfl
theorem q676 : (Jvm.Cond.soleField "FlockHuts$Field$Flock" "this$0") ∈ lw_all := lw_g (lw_at lw_m3 120 rfl) rfl
theorem q677 : (Jvm.Cond.superclass "FlockHuts$Field$Flock" "java/lang/Object") ∈ lw_all := lw_g (lw_at lw_m3 121 rfl) rfl
theorem q679 : (Jvm.Cond.instanceMethod ({ cls := "FlockHuts$Field$Flock", name := "isEmpty", desc := "()Z" } : Jvm.MethodName)) ∈ lw_all := lw_g (lw_at lw_m3 123 rfl) rfl
theorem q680 : (Jvm.Cond.selects "FlockHuts$Field$Flock" ({ cls := "FlockHuts$Field$Flock", name := "isEmpty", desc := "()Z" } : Jvm.MethodName) ({ cls := "FlockHuts$Field$Flock", name := "isEmpty", desc := "()Z" } : Jvm.MethodName)) ∈ lw_all := lw_g (lw_at lw_m3 124 rfl) rfl
theorem q681 : (Jvm.Cond.code ({ cls := "FlockHuts$Field$Flock", name := "isEmpty", desc := "()Z" } : Jvm.MethodName) prog_3_method_9_code (1 : Nat) (Option.some Jvm.ClassFile.FieldType.boolean)) ∈ lw_all := lw_g (lw_at lw_m3 125 rfl) rfl
theorem q682 : (Jvm.Cond.methodLink "FlockHuts$Field$Flock" (22 : Nat) ({ cls := "FlockHuts$Field$Flock", name := "iterator", desc := "()Ljava/util/Iterator;" } : Jvm.MethodName)) ∈ lw_all := lw_g (lw_at lw_m3 126 rfl) rfl
theorem q683 : (Jvm.Cond.instanceMethod ({ cls := "FlockHuts$Field$Flock", name := "iterator", desc := "()Ljava/util/Iterator;" } : Jvm.MethodName)) ∈ lw_all := lw_g (lw_at lw_m3 127 rfl) rfl
theorem q684 : (Jvm.Cond.selects "FlockHuts$Field$Flock" ({ cls := "FlockHuts$Field$Flock", name := "iterator", desc := "()Ljava/util/Iterator;" } : Jvm.MethodName) ({ cls := "FlockHuts$Field$Flock", name := "iterator", desc := "()Ljava/util/Iterator;" } : Jvm.MethodName)) ∈ lw_all := lw_g (lw_at lw_m3 128 rfl) rfl
theorem q685 : (Jvm.Cond.code ({ cls := "FlockHuts$Field$Flock", name := "iterator", desc := "()Ljava/util/Iterator;" } : Jvm.MethodName) prog_3_method_2_code (1 : Nat) (Option.some (Jvm.ClassFile.FieldType.object "java/util/Iterator"))) ∈ lw_all := lw_g (lw_at lw_m3 129 rfl) rfl
theorem q686 : (Jvm.Cond.classLink "FlockHuts$Field$Flock" (17 : Nat) "FlockHuts$Field$Flock$1") ∈ lw_all := lw_g (lw_at lw_m3 130 rfl) rfl
theorem q687 : (Jvm.Cond.methodLink "FlockHuts$Field$Flock" (19 : Nat) ({ cls := "FlockHuts$Field$Flock$1", name := "<init>", desc := "(LFlockHuts$Field$Flock;)V" } : Jvm.MethodName)) ∈ lw_all := lw_g (lw_at lw_m3 131 rfl) rfl
theorem q698 : (Jvm.Cond.interfaceEntry "FlockHuts$Field$Flock" (26 : Nat)) ∈ lw_tbl := lw_at lw_m3 142 rfl
theorem q699 : (Jvm.Cond.methodLink "FlockHuts$Field$Flock" (26 : Nat) ({ cls := "java/util/Iterator", name := "hasNext", desc := "()Z" } : Jvm.MethodName)) ∈ lw_all := lw_g (lw_at lw_m3 143 rfl) rfl
theorem q701 : (Jvm.Cond.instanceMethod ({ cls := "FlockHuts$Field$Flock", name := "middle", desc := "()LFlockHuts$Placed;" } : Jvm.MethodName)) ∈ lw_all := lw_g (lw_at lw_m3 145 rfl) rfl
theorem q702 : (Jvm.Cond.selects "FlockHuts$Field$Flock" ({ cls := "FlockHuts$Field$Flock", name := "middle", desc := "()LFlockHuts$Placed;" } : Jvm.MethodName) ({ cls := "FlockHuts$Field$Flock", name := "middle", desc := "()LFlockHuts$Placed;" } : Jvm.MethodName)) ∈ lw_all := lw_g (lw_at lw_m3 146 rfl) rfl
theorem q703 : (Jvm.Cond.code ({ cls := "FlockHuts$Field$Flock", name := "middle", desc := "()LFlockHuts$Placed;" } : Jvm.MethodName) prog_3_method_8_code (5 : Nat) (Option.some (Jvm.ClassFile.FieldType.object "FlockHuts$Placed"))) ∈ lw_all := lw_g (lw_at lw_m3 147 rfl) rfl
theorem q704 : (Jvm.Cond.interfaceEntry "FlockHuts$Field$Flock" (32 : Nat)) ∈ lw_tbl := lw_at lw_m3 148 rfl
theorem q705 : (Jvm.Cond.methodLink "FlockHuts$Field$Flock" (32 : Nat) ({ cls := "java/util/Iterator", name := "next", desc := "()Ljava/lang/Object;" } : Jvm.MethodName)) ∈ lw_all := lw_g (lw_at lw_m3 149 rfl) rfl
theorem q706 : (Jvm.Cond.classLink "FlockHuts$Field$Flock" (36 : Nat) "FlockHuts$Sheep") ∈ lw_all := lw_g (lw_at lw_m3 150 rfl) rfl
theorem q707 : (Jvm.Cond.methodLink "FlockHuts$Field$Flock" (65 : Nat) ({ cls := "FlockHuts$Field$Flock", name := "weight", desc := "()I" } : Jvm.MethodName)) ∈ lw_all := lw_g (lw_at lw_m3 151 rfl) rfl
theorem q708 : (Jvm.Cond.instanceMethod ({ cls := "FlockHuts$Field$Flock", name := "weight", desc := "()I" } : Jvm.MethodName)) ∈ lw_all := lw_g (lw_at lw_m3 152 rfl) rfl
theorem q709 : (Jvm.Cond.selects "FlockHuts$Field$Flock" ({ cls := "FlockHuts$Field$Flock", name := "weight", desc := "()I" } : Jvm.MethodName) ({ cls := "FlockHuts$Field$Flock", name := "weight", desc := "()I" } : Jvm.MethodName)) ∈ lw_all := lw_g (lw_at lw_m3 153 rfl) rfl
theorem q710 : (Jvm.Cond.code ({ cls := "FlockHuts$Field$Flock", name := "weight", desc := "()I" } : Jvm.MethodName) prog_3_method_4_code (4 : Nat) (Option.some Jvm.ClassFile.FieldType.int)) ∈ lw_all := lw_g (lw_at lw_m3 154 rfl) rfl
theorem q711 : (Jvm.Cond.methodLink "FlockHuts$Field$Flock" (68 : Nat) ({ cls := "FlockHuts$Placed", name := "at", desc := "(II)LFlockHuts$Placed;" } : Jvm.MethodName)) ∈ lw_all := lw_g (lw_at lw_m3 155 rfl) rfl
theorem q765 : (Jvm.Cond.instanceMethod ({ cls := "FlockHuts$Field$Flock", name := "spread", desc := "()I" } : Jvm.MethodName)) ∈ lw_all := lw_g (lw_at lw_m3 209 rfl) rfl
theorem q766 : (Jvm.Cond.selects "FlockHuts$Field$Flock" ({ cls := "FlockHuts$Field$Flock", name := "spread", desc := "()I" } : Jvm.MethodName) ({ cls := "FlockHuts$Field$Flock", name := "spread", desc := "()I" } : Jvm.MethodName)) ∈ lw_all := lw_g (lw_at lw_m3 210 rfl) rfl
theorem q767 : (Jvm.Cond.code ({ cls := "FlockHuts$Field$Flock", name := "spread", desc := "()I" } : Jvm.MethodName) prog_3_method_5_code (4 : Nat) (Option.some Jvm.ClassFile.FieldType.int)) ∈ lw_all := lw_g (lw_at lw_m3 211 rfl) rfl
theorem q768 : (Jvm.Cond.methodLink "FlockHuts$Field$Flock" (47 : Nat) ({ cls := "java/util/ArrayList", name := "get", desc := "(I)Ljava/lang/Object;" } : Jvm.MethodName)) ∈ lw_all := lw_g (lw_at lw_m3 212 rfl) rfl
theorem q769 : (Jvm.Cond.classLink "FlockHuts$Field$Flock" (53 : Nat) "FlockHuts$Placed") ∈ lw_all := lw_g (lw_at lw_m3 213 rfl) rfl
theorem q797 : (Jvm.Cond.instanceMethod ({ cls := "FlockHuts$Field$Flock", name := "count", desc := "()I" } : Jvm.MethodName)) ∈ lw_all := lw_g (lw_at lw_m4 1 rfl) rfl
theorem q798 : (Jvm.Cond.selects "FlockHuts$Field$Flock" ({ cls := "FlockHuts$Field$Flock", name := "count", desc := "()I" } : Jvm.MethodName) ({ cls := "FlockHuts$Field$Flock", name := "count", desc := "()I" } : Jvm.MethodName)) ∈ lw_all := lw_g (lw_at lw_m4 2 rfl) rfl
theorem q799 : (Jvm.Cond.code ({ cls := "FlockHuts$Field$Flock", name := "count", desc := "()I" } : Jvm.MethodName) prog_3_method_3_code (4 : Nat) (Option.some Jvm.ClassFile.FieldType.int)) ∈ lw_all := lw_g (lw_at lw_m4 3 rfl) rfl
theorem q1250 : (Jvm.Cond.selects "FlockHuts$Field$Flock" ({ cls := "java/lang/Object", name := "equals", desc := "(Ljava/lang/Object;)Z" } : Jvm.MethodName) ({ cls := "java/lang/Object", name := "equals", desc := "(Ljava/lang/Object;)Z" } : Jvm.MethodName)) ∈ lw_all := lw_g (lw_at lw_m5 214 rfl) rfl
theorem q1491 : (Jvm.Cond.instanceMethod ({ cls := "FlockHuts$Field$Flock", name := "farthest", desc := "()LFlockHuts$Sheep;" } : Jvm.MethodName)) ∈ lw_all := lw_g (lw_at lw_m6 215 rfl) rfl
theorem q1492 : (Jvm.Cond.selects "FlockHuts$Field$Flock" ({ cls := "FlockHuts$Field$Flock", name := "farthest", desc := "()LFlockHuts$Sheep;" } : Jvm.MethodName) ({ cls := "FlockHuts$Field$Flock", name := "farthest", desc := "()LFlockHuts$Sheep;" } : Jvm.MethodName)) ∈ lw_all := lw_g (lw_at lw_m6 216 rfl) rfl
theorem q1493 : (Jvm.Cond.code ({ cls := "FlockHuts$Field$Flock", name := "farthest", desc := "()LFlockHuts$Sheep;" } : Jvm.MethodName) prog_3_method_7_code (5 : Nat) (Option.some (Jvm.ClassFile.FieldType.object "FlockHuts$Sheep"))) ∈ lw_all := lw_g (lw_at lw_m6 217 rfl) rfl
theorem q1721 : (Jvm.Cond.instanceMethod ({ cls := "FlockHuts$Field$Flock", name := "distances", desc := "()I" } : Jvm.MethodName)) ∈ lw_all := lw_g (lw_at lw_m7 205 rfl) rfl
theorem q1722 : (Jvm.Cond.selects "FlockHuts$Field$Flock" ({ cls := "FlockHuts$Field$Flock", name := "distances", desc := "()I" } : Jvm.MethodName) ({ cls := "FlockHuts$Field$Flock", name := "distances", desc := "()I" } : Jvm.MethodName)) ∈ lw_all := lw_g (lw_at lw_m7 206 rfl) rfl
theorem q1723 : (Jvm.Cond.code ({ cls := "FlockHuts$Field$Flock", name := "distances", desc := "()I" } : Jvm.MethodName) prog_3_method_6_code (4 : Nat) (Option.some Jvm.ClassFile.FieldType.int)) ∈ lw_all := lw_g (lw_at lw_m7 207 rfl) rfl
theorem q2454 : (Jvm.Cond.castable "FlockHuts$Field$Flock" "java/lang/Object") ∈ lw_tbl := lw_at lw_m10 218 rfl
theorem in_X10 : ∀ w ∈ wsX100, w ∈ lw_all := lw_in wsX100 [673, 675] (by decide +kernel) (by decide +kernel)

/-! FlockHuts$Field$Flock$1 -/
set_option maxRecDepth 100000
def RX11 : String := "FlockHuts$Field$Flock$1"
def TX11 : u_T := fun k => match k with
  | 0 => ("FlockHuts$Field$Flock$1", "at", "I", false)
  | _ => ("FlockHuts$Field$Flock$1", "this$1", "LFlockHuts$Field$Flock;", true)
def tyX11 : Nat → FieldType := fun k => match k with
  | 0 => .int
  | _ => .object "FlockHuts$Field$Flock"
abbrev wsX110 : List Cond := u_ws RX11 TX11 2
theorem nmX11 : ∀ a, a < 2 → ∀ b, b < 2 → a ≠ b → (TX11 a).2.1 ≠ (TX11 b).2.1 := by decide +kernel
theorem tyX11_ok : ∀ k, k < 2 → parseFieldDescriptor (TX11 k).2.2.1 = some (tyX11 k) := by decide +kernel
abbrev cX11_hasNext : ByteArray := prog_4_method_3_code
def yX11_hasNext : MethodName := ⟨RX11, "hasNext", "()Z"⟩
def dkwX11_hasNext_1 : List UInt8 := [3, 172]
abbrev dktX11_hasNext_1 : List UInt8 := dkwX11_hasNext_1 ++ []
def dkwX11_hasNext_0 : List UInt8 := [42, 180, 0, 17, 42, 180, 0, 1, 180, 0, 21, 180, 0, 27, 182, 0, 33, 162, 0, 7, 4, 167, 0, 4]
abbrev dktX11_hasNext_0 : List UInt8 := dkwX11_hasNext_0 ++ dktX11_hasNext_1
theorem dksX11_hasNext_0 : cX11_hasNext.data.toList.drop 0 = dktX11_hasNext_0 := by decide +kernel
theorem dksX11_hasNext_1 : cX11_hasNext.data.toList.drop 24 = dktX11_hasNext_1 := dk_seg dksX11_hasNext_0 24 rfl rfl
theorem dX11_hasNext_0 : decode cX11_hasNext 0 = .ok (.aload_n 0, 1) := dk_42 (dk_at dksX11_hasNext_0 0 rfl rfl)
theorem dX11_hasNext_1 : decode cX11_hasNext 1 = .ok (.getfield 17, 3) := dk_180 0 17 (dk_at dksX11_hasNext_0 1 rfl rfl)
theorem dX11_hasNext_4 : decode cX11_hasNext 4 = .ok (.aload_n 0, 1) := dk_42 (dk_at dksX11_hasNext_0 4 rfl rfl)
theorem dX11_hasNext_5 : decode cX11_hasNext 5 = .ok (.getfield 1, 3) := dk_180 0 1 (dk_at dksX11_hasNext_0 5 rfl rfl)
theorem dX11_hasNext_8 : decode cX11_hasNext 8 = .ok (.getfield 21, 3) := dk_180 0 21 (dk_at dksX11_hasNext_0 8 rfl rfl)
theorem dX11_hasNext_11 : decode cX11_hasNext 11 = .ok (.getfield 27, 3) := dk_180 0 27 (dk_at dksX11_hasNext_0 11 rfl rfl)
theorem dX11_hasNext_14 : decode cX11_hasNext 14 = .ok (.invokevirtual 33, 3) := dk_182 0 33 (dk_at dksX11_hasNext_0 14 rfl rfl)
theorem dX11_hasNext_17 : decode cX11_hasNext 17 = .ok (.if_icmp .ge 7, 3) := dk_162 0 7 (dk_at dksX11_hasNext_0 17 rfl rfl)
theorem dX11_hasNext_20 : decode cX11_hasNext 20 = .ok (.iconst 1, 1) := dk_4 (dk_at dksX11_hasNext_0 20 rfl rfl)
theorem dX11_hasNext_21 : decode cX11_hasNext 21 = .ok (.goto 4, 3) := dk_167 0 4 (dk_at dksX11_hasNext_0 21 rfl rfl)
theorem dX11_hasNext_24 : decode cX11_hasNext 24 = .ok (.iconst 0, 1) := dk_3 (dk_at dksX11_hasNext_1 0 rfl rfl)
theorem dX11_hasNext_25 : decode cX11_hasNext 25 = .ok (.ireturn, 1) := dk_172 (dk_at dksX11_hasNext_1 1 rfl rfl)
abbrev cX11_next : ByteArray := prog_4_method_5_code
def yX11_next : MethodName := ⟨RX11, "next", "()Ljava/lang/Object;"⟩
theorem dX11_next_0 : decode cX11_next 0 = .ok (.aload_n 0, 1) := by decide +kernel
theorem dX11_next_1 : decode cX11_next 1 = .ok (.invokevirtual 59, 3) := by decide +kernel
theorem dX11_next_4 : decode cX11_next 4 = .ok (.areturn, 1) := by decide +kernel
abbrev cX11_next_2 : ByteArray := prog_4_method_4_code
def yX11_next_2 : MethodName := ⟨RX11, "next", "()LFlockHuts$Sheep;"⟩
def dkwX11_next_2_1 : List UInt8 := [192, 0, 43, 76, 42, 42, 42, 180, 0, 17, 4, 96, 182, 0, 13, 181, 0, 17, 43, 176]
abbrev dktX11_next_2_1 : List UInt8 := dkwX11_next_2_1 ++ []
def dkwX11_next_2_0 : List UInt8 := [42, 182, 0, 49, 184, 0, 53, 42, 180, 0, 1, 180, 0, 21, 180, 0, 27, 42, 180, 0, 17, 182, 0, 39]
abbrev dktX11_next_2_0 : List UInt8 := dkwX11_next_2_0 ++ dktX11_next_2_1
theorem dksX11_next_2_0 : cX11_next_2.data.toList.drop 0 = dktX11_next_2_0 := by decide +kernel
theorem dksX11_next_2_1 : cX11_next_2.data.toList.drop 24 = dktX11_next_2_1 := dk_seg dksX11_next_2_0 24 rfl rfl
theorem dX11_next_2_0 : decode cX11_next_2 0 = .ok (.aload_n 0, 1) := dk_42 (dk_at dksX11_next_2_0 0 rfl rfl)
theorem dX11_next_2_1 : decode cX11_next_2 1 = .ok (.invokevirtual 49, 3) := dk_182 0 49 (dk_at dksX11_next_2_0 1 rfl rfl)
theorem dX11_next_2_4 : decode cX11_next_2 4 = .ok (.invokestatic 53, 3) := dk_184 0 53 (dk_at dksX11_next_2_0 4 rfl rfl)
theorem dX11_next_2_7 : decode cX11_next_2 7 = .ok (.aload_n 0, 1) := dk_42 (dk_at dksX11_next_2_0 7 rfl rfl)
theorem dX11_next_2_8 : decode cX11_next_2 8 = .ok (.getfield 1, 3) := dk_180 0 1 (dk_at dksX11_next_2_0 8 rfl rfl)
theorem dX11_next_2_11 : decode cX11_next_2 11 = .ok (.getfield 21, 3) := dk_180 0 21 (dk_at dksX11_next_2_0 11 rfl rfl)
theorem dX11_next_2_14 : decode cX11_next_2 14 = .ok (.getfield 27, 3) := dk_180 0 27 (dk_at dksX11_next_2_0 14 rfl rfl)
theorem dX11_next_2_17 : decode cX11_next_2 17 = .ok (.aload_n 0, 1) := dk_42 (dk_at dksX11_next_2_0 17 rfl rfl)
theorem dX11_next_2_18 : decode cX11_next_2 18 = .ok (.getfield 17, 3) := dk_180 0 17 (dk_at dksX11_next_2_0 18 rfl rfl)
theorem dX11_next_2_21 : decode cX11_next_2 21 = .ok (.invokevirtual 39, 3) := dk_182 0 39 (dk_at dksX11_next_2_0 21 rfl rfl)
theorem dX11_next_2_24 : decode cX11_next_2 24 = .ok (.checkcast 43, 3) := dk_192 0 43 (dk_at dksX11_next_2_1 0 rfl rfl)
theorem dX11_next_2_27 : decode cX11_next_2 27 = .ok (.astore_n 1, 1) := dk_76 (dk_at dksX11_next_2_1 3 rfl rfl)
theorem dX11_next_2_28 : decode cX11_next_2 28 = .ok (.aload_n 0, 1) := dk_42 (dk_at dksX11_next_2_1 4 rfl rfl)
theorem dX11_next_2_29 : decode cX11_next_2 29 = .ok (.aload_n 0, 1) := dk_42 (dk_at dksX11_next_2_1 5 rfl rfl)
theorem dX11_next_2_30 : decode cX11_next_2 30 = .ok (.aload_n 0, 1) := dk_42 (dk_at dksX11_next_2_1 6 rfl rfl)
theorem dX11_next_2_31 : decode cX11_next_2 31 = .ok (.getfield 17, 3) := dk_180 0 17 (dk_at dksX11_next_2_1 7 rfl rfl)
theorem dX11_next_2_34 : decode cX11_next_2 34 = .ok (.iconst 1, 1) := dk_4 (dk_at dksX11_next_2_1 10 rfl rfl)
theorem dX11_next_2_35 : decode cX11_next_2 35 = .ok (.iadd, 1) := dk_96 (dk_at dksX11_next_2_1 11 rfl rfl)
theorem dX11_next_2_36 : decode cX11_next_2 36 = .ok (.invokevirtual 13, 3) := dk_182 0 13 (dk_at dksX11_next_2_1 12 rfl rfl)
theorem dX11_next_2_39 : decode cX11_next_2 39 = .ok (.putfield 17, 3) := dk_181 0 17 (dk_at dksX11_next_2_1 15 rfl rfl)
theorem dX11_next_2_42 : decode cX11_next_2 42 = .ok (.aload_n 1, 1) := dk_43 (dk_at dksX11_next_2_1 18 rfl rfl)
theorem dX11_next_2_43 : decode cX11_next_2 43 = .ok (.areturn, 1) := dk_176 (dk_at dksX11_next_2_1 19 rfl rfl)
abbrev cX11_next_3 : ByteArray := prog_4_method_2_code
def yX11_next_3 : MethodName := ⟨RX11, "next", "(I)I"⟩
def dkwX11_next_3_2 : List UInt8 := [159, 0, 9, 132, 2, 1, 167, 255, 206, 28, 172]
abbrev dktX11_next_3_2 : List UInt8 := dkwX11_next_3_2 ++ []
def dkwX11_next_3_1 : List UInt8 := [180, 0, 21, 180, 0, 27, 28, 182, 0, 39, 192, 0, 43, 180, 0, 45, 42, 180, 0, 1, 180, 0, 48]
abbrev dktX11_next_3_1 : List UInt8 := dkwX11_next_3_1 ++ dktX11_next_3_2
def dkwX11_next_3_0 : List UInt8 := [27, 61, 28, 42, 180, 0, 1, 180, 0, 21, 180, 0, 27, 182, 0, 33, 162, 0, 39, 42, 180, 0, 1]
abbrev dktX11_next_3_0 : List UInt8 := dkwX11_next_3_0 ++ dktX11_next_3_1
theorem dksX11_next_3_0 : cX11_next_3.data.toList.drop 0 = dktX11_next_3_0 := by decide +kernel
theorem dksX11_next_3_1 : cX11_next_3.data.toList.drop 23 = dktX11_next_3_1 := dk_seg dksX11_next_3_0 23 rfl rfl
theorem dksX11_next_3_2 : cX11_next_3.data.toList.drop 46 = dktX11_next_3_2 := dk_seg dksX11_next_3_1 23 rfl rfl
theorem dX11_next_3_0 : decode cX11_next_3 0 = .ok (.iload_n 1, 1) := dk_27 (dk_at dksX11_next_3_0 0 rfl rfl)
theorem dX11_next_3_1 : decode cX11_next_3 1 = .ok (.istore_n 2, 1) := dk_61 (dk_at dksX11_next_3_0 1 rfl rfl)
theorem dX11_next_3_2 : decode cX11_next_3 2 = .ok (.iload_n 2, 1) := dk_28 (dk_at dksX11_next_3_0 2 rfl rfl)
theorem dX11_next_3_3 : decode cX11_next_3 3 = .ok (.aload_n 0, 1) := dk_42 (dk_at dksX11_next_3_0 3 rfl rfl)
theorem dX11_next_3_4 : decode cX11_next_3 4 = .ok (.getfield 1, 3) := dk_180 0 1 (dk_at dksX11_next_3_0 4 rfl rfl)
theorem dX11_next_3_7 : decode cX11_next_3 7 = .ok (.getfield 21, 3) := dk_180 0 21 (dk_at dksX11_next_3_0 7 rfl rfl)
theorem dX11_next_3_10 : decode cX11_next_3 10 = .ok (.getfield 27, 3) := dk_180 0 27 (dk_at dksX11_next_3_0 10 rfl rfl)
theorem dX11_next_3_13 : decode cX11_next_3 13 = .ok (.invokevirtual 33, 3) := dk_182 0 33 (dk_at dksX11_next_3_0 13 rfl rfl)
theorem dX11_next_3_16 : decode cX11_next_3 16 = .ok (.if_icmp .ge 39, 3) := dk_162 0 39 (dk_at dksX11_next_3_0 16 rfl rfl)
theorem dX11_next_3_19 : decode cX11_next_3 19 = .ok (.aload_n 0, 1) := dk_42 (dk_at dksX11_next_3_0 19 rfl rfl)
theorem dX11_next_3_20 : decode cX11_next_3 20 = .ok (.getfield 1, 3) := dk_180 0 1 (dk_at dksX11_next_3_0 20 rfl rfl)
theorem dX11_next_3_23 : decode cX11_next_3 23 = .ok (.getfield 21, 3) := dk_180 0 21 (dk_at dksX11_next_3_1 0 rfl rfl)
theorem dX11_next_3_26 : decode cX11_next_3 26 = .ok (.getfield 27, 3) := dk_180 0 27 (dk_at dksX11_next_3_1 3 rfl rfl)
theorem dX11_next_3_29 : decode cX11_next_3 29 = .ok (.iload_n 2, 1) := dk_28 (dk_at dksX11_next_3_1 6 rfl rfl)
theorem dX11_next_3_30 : decode cX11_next_3 30 = .ok (.invokevirtual 39, 3) := dk_182 0 39 (dk_at dksX11_next_3_1 7 rfl rfl)
theorem dX11_next_3_33 : decode cX11_next_3 33 = .ok (.checkcast 43, 3) := dk_192 0 43 (dk_at dksX11_next_3_1 10 rfl rfl)
theorem dX11_next_3_36 : decode cX11_next_3 36 = .ok (.getfield 45, 3) := dk_180 0 45 (dk_at dksX11_next_3_1 13 rfl rfl)
theorem dX11_next_3_39 : decode cX11_next_3 39 = .ok (.aload_n 0, 1) := dk_42 (dk_at dksX11_next_3_1 16 rfl rfl)
theorem dX11_next_3_40 : decode cX11_next_3 40 = .ok (.getfield 1, 3) := dk_180 0 1 (dk_at dksX11_next_3_1 17 rfl rfl)
theorem dX11_next_3_43 : decode cX11_next_3 43 = .ok (.getfield 48, 3) := dk_180 0 48 (dk_at dksX11_next_3_1 20 rfl rfl)
theorem dX11_next_3_46 : decode cX11_next_3 46 = .ok (.if_icmp .eq 9, 3) := dk_159 0 9 (dk_at dksX11_next_3_2 0 rfl rfl)
theorem dX11_next_3_49 : decode cX11_next_3 49 = .ok (.iinc 2 1, 3) := dk_132 2 1 (dk_at dksX11_next_3_2 3 rfl rfl)
theorem dX11_next_3_52 : decode cX11_next_3 52 = .ok (.goto (-50), 3) := dk_167 255 206 (dk_at dksX11_next_3_2 6 rfl rfl)
theorem dX11_next_3_55 : decode cX11_next_3 55 = .ok (.iload_n 2, 1) := dk_28 (dk_at dksX11_next_3_2 9 rfl rfl)
theorem dX11_next_3_56 : decode cX11_next_3 56 = .ok (.ireturn, 1) := dk_172 (dk_at dksX11_next_3_2 10 rfl rfl)
abbrev cX11_init : ByteArray := prog_4_method_1_code
def yX11_init : MethodName := ⟨RX11, "<init>", "(LFlockHuts$Field$Flock;)V"⟩
def dkwX11_init_0 : List UInt8 := [42, 43, 181, 0, 1, 42, 183, 0, 7, 42, 42, 3, 182, 0, 13, 181, 0, 17, 177]
abbrev dktX11_init_0 : List UInt8 := dkwX11_init_0 ++ []
theorem dksX11_init_0 : cX11_init.data.toList.drop 0 = dktX11_init_0 := by decide +kernel
theorem dX11_init_0 : decode cX11_init 0 = .ok (.aload_n 0, 1) := dk_42 (dk_at dksX11_init_0 0 rfl rfl)
theorem dX11_init_1 : decode cX11_init 1 = .ok (.aload_n 1, 1) := dk_43 (dk_at dksX11_init_0 1 rfl rfl)
theorem dX11_init_2 : decode cX11_init 2 = .ok (.putfield 1, 3) := dk_181 0 1 (dk_at dksX11_init_0 2 rfl rfl)
theorem dX11_init_5 : decode cX11_init 5 = .ok (.aload_n 0, 1) := dk_42 (dk_at dksX11_init_0 5 rfl rfl)
theorem dX11_init_6 : decode cX11_init 6 = .ok (.invokespecial 7, 3) := dk_183 0 7 (dk_at dksX11_init_0 6 rfl rfl)
theorem dX11_init_9 : decode cX11_init 9 = .ok (.aload_n 0, 1) := dk_42 (dk_at dksX11_init_0 9 rfl rfl)
theorem dX11_init_10 : decode cX11_init 10 = .ok (.aload_n 0, 1) := dk_42 (dk_at dksX11_init_0 10 rfl rfl)
theorem dX11_init_11 : decode cX11_init 11 = .ok (.iconst 0, 1) := dk_3 (dk_at dksX11_init_0 11 rfl rfl)
theorem dX11_init_12 : decode cX11_init 12 = .ok (.invokevirtual 13, 3) := dk_182 0 13 (dk_at dksX11_init_0 12 rfl rfl)
theorem dX11_init_15 : decode cX11_init 15 = .ok (.putfield 17, 3) := dk_181 0 17 (dk_at dksX11_init_0 15 rfl rfl)
theorem dX11_init_18 : decode cX11_init 18 = .ok (.return_, 1) := dk_177 (dk_at dksX11_init_0 18 rfl rfl)
theorem q111 : (Jvm.Cond.initialized "FlockHuts$Field$Flock$1") ∈ lw_all := lw_g (lw_at lw_m1 35 rfl) rfl
theorem q162 : (Jvm.Cond.fieldLinkNest "FlockHuts$Field$Flock$1" (27 : Nat) "FlockHuts$Field" "sheep" "Ljava/util/ArrayList;" "FlockHuts") ∈ lw_tbl := lw_at lw_m1 86 rfl
theorem q325 : (Jvm.Cond.castable "FlockHuts$Field$Flock$1" "java/util/Iterator") ∈ lw_tbl := lw_at lw_m2 9 rfl
theorem q326 : (Jvm.Cond.selects "FlockHuts$Field$Flock$1" ({ cls := "java/util/Iterator", name := "hasNext", desc := "()Z" } : Jvm.MethodName) ({ cls := "FlockHuts$Field$Flock$1", name := "hasNext", desc := "()Z" } : Jvm.MethodName)) ∈ lw_all := lw_g (lw_at lw_m2 10 rfl) rfl
theorem q327 : (Jvm.Cond.unhidden "FlockHuts$Field$Flock$1" "hasNext" "()Z") ∈ lw_tbl := lw_at lw_m2 11 rfl
theorem q328 : (Jvm.Cond.instanceMethod ({ cls := "FlockHuts$Field$Flock$1", name := "hasNext", desc := "()Z" } : Jvm.MethodName)) ∈ lw_all := lw_g (lw_at lw_m2 12 rfl) rfl
theorem q329 : (Jvm.Cond.publicMethod ({ cls := "FlockHuts$Field$Flock$1", name := "hasNext", desc := "()Z" } : Jvm.MethodName)) ∈ lw_tbl := lw_at lw_m2 13 rfl
theorem q330 : (Jvm.Cond.code ({ cls := "FlockHuts$Field$Flock$1", name := "hasNext", desc := "()Z" } : Jvm.MethodName) prog_4_method_3_code (1 : Nat) (Option.some Jvm.ClassFile.FieldType.boolean)) ∈ lw_all := lw_g (lw_at lw_m2 14 rfl) rfl
theorem q331 : (Jvm.Cond.methodLink "FlockHuts$Field$Flock$1" (33 : Nat) ({ cls := "java/util/ArrayList", name := "size", desc := "()I" } : Jvm.MethodName)) ∈ lw_all := lw_g (lw_at lw_m2 15 rfl) rfl
theorem q342 : (Jvm.Cond.selects "FlockHuts$Field$Flock$1" ({ cls := "java/util/Iterator", name := "next", desc := "()Ljava/lang/Object;" } : Jvm.MethodName) ({ cls := "FlockHuts$Field$Flock$1", name := "next", desc := "()Ljava/lang/Object;" } : Jvm.MethodName)) ∈ lw_all := lw_g (lw_at lw_m2 26 rfl) rfl
theorem q343 : (Jvm.Cond.unhidden "FlockHuts$Field$Flock$1" "next" "()Ljava/lang/Object;") ∈ lw_tbl := lw_at lw_m2 27 rfl
theorem q344 : (Jvm.Cond.instanceMethod ({ cls := "FlockHuts$Field$Flock$1", name := "next", desc := "()Ljava/lang/Object;" } : Jvm.MethodName)) ∈ lw_all := lw_g (lw_at lw_m2 28 rfl) rfl
theorem q345 : (Jvm.Cond.publicMethod ({ cls := "FlockHuts$Field$Flock$1", name := "next", desc := "()Ljava/lang/Object;" } : Jvm.MethodName)) ∈ lw_tbl := lw_at lw_m2 29 rfl
theorem q346 : (Jvm.Cond.code ({ cls := "FlockHuts$Field$Flock$1", name := "next", desc := "()Ljava/lang/Object;" } : Jvm.MethodName) prog_4_method_5_code (1 : Nat) (Option.some (Jvm.ClassFile.FieldType.object "java/lang/Object"))) ∈ lw_all := lw_g (lw_at lw_m2 30 rfl) rfl
theorem q347 : (Jvm.Cond.methodLink "FlockHuts$Field$Flock$1" (59 : Nat) ({ cls := "FlockHuts$Field$Flock$1", name := "next", desc := "()LFlockHuts$Sheep;" } : Jvm.MethodName)) ∈ lw_all := lw_g (lw_at lw_m2 31 rfl) rfl
theorem q348 : (Jvm.Cond.instanceMethod ({ cls := "FlockHuts$Field$Flock$1", name := "next", desc := "()LFlockHuts$Sheep;" } : Jvm.MethodName)) ∈ lw_all := lw_g (lw_at lw_m2 32 rfl) rfl
theorem q349 : (Jvm.Cond.selects "FlockHuts$Field$Flock$1" ({ cls := "FlockHuts$Field$Flock$1", name := "next", desc := "()LFlockHuts$Sheep;" } : Jvm.MethodName) ({ cls := "FlockHuts$Field$Flock$1", name := "next", desc := "()LFlockHuts$Sheep;" } : Jvm.MethodName)) ∈ lw_all := lw_g (lw_at lw_m2 33 rfl) rfl
theorem q350 : (Jvm.Cond.code ({ cls := "FlockHuts$Field$Flock$1", name := "next", desc := "()LFlockHuts$Sheep;" } : Jvm.MethodName) prog_4_method_4_code (2 : Nat) (Option.some (Jvm.ClassFile.FieldType.object "FlockHuts$Sheep"))) ∈ lw_all := lw_g (lw_at lw_m2 34 rfl) rfl
theorem q351 : (Jvm.Cond.methodLink "FlockHuts$Field$Flock$1" (49 : Nat) ({ cls := "FlockHuts$Field$Flock$1", name := "hasNext", desc := "()Z" } : Jvm.MethodName)) ∈ lw_all := lw_g (lw_at lw_m2 35 rfl) rfl
theorem q352 : (Jvm.Cond.methodLinkNest "FlockHuts$Field$Flock$1" (53 : Nat) ({ cls := "FlockHuts", name := "checkElement", desc := "(Z)V" } : Jvm.MethodName) "FlockHuts") ∈ lw_tbl := lw_at lw_m2 36 rfl
theorem q425 : (Jvm.Cond.methodLink "FlockHuts$Field$Flock$1" (39 : Nat) ({ cls := "java/util/ArrayList", name := "get", desc := "(I)Ljava/lang/Object;" } : Jvm.MethodName)) ∈ lw_all := lw_g (lw_at lw_m2 109 rfl) rfl
theorem q439 : (Jvm.Cond.classLink "FlockHuts$Field$Flock$1" (43 : Nat) "FlockHuts$Sheep") ∈ lw_all := lw_g (lw_at lw_m2 123 rfl) rfl
theorem q440 : (Jvm.Cond.methodLink "FlockHuts$Field$Flock$1" (13 : Nat) ({ cls := "FlockHuts$Field$Flock$1", name := "next", desc := "(I)I" } : Jvm.MethodName)) ∈ lw_all := lw_g (lw_at lw_m2 124 rfl) rfl
theorem q441 : (Jvm.Cond.privateMethod ({ cls := "FlockHuts$Field$Flock$1", name := "next", desc := "(I)I" } : Jvm.MethodName)) ∈ lw_tbl := lw_at lw_m2 125 rfl
theorem q442 : (Jvm.Cond.instanceMethod ({ cls := "FlockHuts$Field$Flock$1", name := "next", desc := "(I)I" } : Jvm.MethodName)) ∈ lw_all := lw_g (lw_at lw_m2 126 rfl) rfl
theorem q443 : (Jvm.Cond.instantiable "FlockHuts$Field$Flock$1" (2 : Nat)) ∈ lw_all := lw_g (lw_at lw_m2 127 rfl) rfl
theorem q444 : (Jvm.Cond.code ({ cls := "FlockHuts$Field$Flock$1", name := "next", desc := "(I)I" } : Jvm.MethodName) prog_4_method_2_code (3 : Nat) (Option.some Jvm.ClassFile.FieldType.int)) ∈ lw_all := lw_g (lw_at lw_m2 128 rfl) rfl
theorem q480 : (Jvm.Cond.fieldLinkNest "FlockHuts$Field$Flock$1" (45 : Nat) "FlockHuts$Sheep" "hut" "I" "FlockHuts") ∈ lw_tbl := lw_at lw_m2 164 rfl
theorem q527 : (Jvm.Cond.selects "FlockHuts$Field$Flock$1" ({ cls := "java/lang/Object", name := "getClass", desc := "()Ljava/lang/Class;" } : Jvm.MethodName) ({ cls := "java/lang/Object", name := "getClass", desc := "()Ljava/lang/Class;" } : Jvm.MethodName)) ∈ lw_all := lw_g (lw_at lw_m2 211 rfl) rfl
theorem q670 : (Jvm.Cond.fieldLinkNest "FlockHuts$Field$Flock$1" (48 : Nat) "FlockHuts$Field$Flock" "hut" "I" "FlockHuts") ∈ lw_tbl := lw_at lw_m3 114 rfl
theorem q672 : (Jvm.Cond.fieldLink "FlockHuts$Field$Flock$1" (21 : Nat) "FlockHuts$Field$Flock" "this$0" "LFlockHuts$Field;") ∈ lw_all := lw_g (lw_at lw_m3 116 rfl) rfl
theorem q688 : (Jvm.Cond.instanceMethod ({ cls := "FlockHuts$Field$Flock$1", name := "<init>", desc := "(LFlockHuts$Field$Flock;)V" } : Jvm.MethodName)) ∈ lw_all := lw_g (lw_at lw_m3 132 rfl) rfl
theorem q689 : (Jvm.Cond.code ({ cls := "FlockHuts$Field$Flock$1", name := "<init>", desc := "(LFlockHuts$Field$Flock;)V" } : Jvm.MethodName) prog_4_method_1_code (2 : Nat) (Option.none : Option Jvm.ClassFile.FieldType)) ∈ lw_all := lw_g (lw_at lw_m3 133 rfl) rfl
theorem q690 : (Jvm.Cond.methodLink "FlockHuts$Field$Flock$1" (7 : Nat) ({ cls := "java/lang/Object", name := "<init>", desc := "()V" } : Jvm.MethodName)) ∈ lw_all := lw_g (lw_at lw_m3 134 rfl) rfl
theorem q691 : (Jvm.Cond.fieldLink "FlockHuts$Field$Flock$1" (17 : Nat) "FlockHuts$Field$Flock$1" "at" "I") ∈ lw_all := lw_g (lw_at lw_m3 135 rfl) rfl
theorem q692 : (Jvm.Cond.fieldLink "FlockHuts$Field$Flock$1" (1 : Nat) "FlockHuts$Field$Flock$1" "this$1" "LFlockHuts$Field$Flock;") ∈ lw_all := lw_g (lw_at lw_m3 136 rfl) rfl
theorem q693 : (Jvm.Cond.lays "FlockHuts$Field$Flock$1" "FlockHuts$Field$Flock$1" "at" "I") ∈ lw_all := lw_g (lw_at lw_m3 137 rfl) rfl
theorem q694 : (Jvm.Cond.soleField "FlockHuts$Field$Flock$1" "at") ∈ lw_all := lw_g (lw_at lw_m3 138 rfl) rfl
theorem q695 : (Jvm.Cond.laysFinal "FlockHuts$Field$Flock$1" "FlockHuts$Field$Flock$1" "this$1" "LFlockHuts$Field$Flock;") ∈ lw_all := lw_g (lw_at lw_m3 139 rfl) rfl
theorem q696 : (Jvm.Cond.soleField "FlockHuts$Field$Flock$1" "this$1") ∈ lw_all := lw_g (lw_at lw_m3 140 rfl) rfl
theorem q697 : (Jvm.Cond.superclass "FlockHuts$Field$Flock$1" "java/lang/Object") ∈ lw_all := lw_g (lw_at lw_m3 141 rfl) rfl
theorem q1251 : (Jvm.Cond.selects "FlockHuts$Field$Flock$1" ({ cls := "java/lang/Object", name := "equals", desc := "(Ljava/lang/Object;)Z" } : Jvm.MethodName) ({ cls := "java/lang/Object", name := "equals", desc := "(Ljava/lang/Object;)Z" } : Jvm.MethodName)) ∈ lw_all := lw_g (lw_at lw_m5 215 rfl) rfl
theorem q2422 : (Jvm.Cond.selects "FlockHuts$Field$Flock$1" ({ cls := "FlockHuts$Field$Flock$1", name := "hasNext", desc := "()Z" } : Jvm.MethodName) ({ cls := "FlockHuts$Field$Flock$1", name := "hasNext", desc := "()Z" } : Jvm.MethodName)) ∈ lw_all := lw_g (lw_at lw_m10 186 rfl) rfl
theorem q2455 : (Jvm.Cond.castable "FlockHuts$Field$Flock$1" "java/lang/Object") ∈ lw_tbl := lw_at lw_m10 219 rfl
theorem in_X11 : ∀ w ∈ wsX110, w ∈ lw_all := lw_in wsX110 [693, 695] (by decide +kernel) (by decide +kernel)

/-! FlockHuts$Parser -/
set_option maxRecDepth 100000
def RX12 : String := "FlockHuts$Parser"
def TX12 : u_T := fun k => match k with
  | 0 => ("FlockHuts$Parser", "text", "Ljava/lang/CharSequence;", true)
  | _ => ("FlockHuts$Parser", "position", "I", false)
def tyX12 : Nat → FieldType := fun k => match k with
  | 0 => .object "java/lang/CharSequence"
  | _ => .int
abbrev wsX120 : List Cond := u_ws RX12 TX12 2
theorem nmX12 : ∀ a, a < 2 → ∀ b, b < 2 → a ≠ b → (TX12 a).2.1 ≠ (TX12 b).2.1 := by decide +kernel
theorem tyX12_ok : ∀ k, k < 2 → parseFieldDescriptor (TX12 k).2.2.1 = some (tyX12 k) := by decide +kernel
abbrev cX12_init : ByteArray := prog_7_method_1_code
def yX12_init : MethodName := ⟨RX12, "<init>", "(Ljava/lang/CharSequence;)V"⟩
def dkwX12_init_0 : List UInt8 := [42, 183, 0, 3, 42, 43, 181, 0, 9, 177]
abbrev dktX12_init_0 : List UInt8 := dkwX12_init_0 ++ []
theorem dksX12_init_0 : cX12_init.data.toList.drop 0 = dktX12_init_0 := by decide +kernel
theorem dX12_init_0 : decode cX12_init 0 = .ok (.aload_n 0, 1) := dk_42 (dk_at dksX12_init_0 0 rfl rfl)
theorem dX12_init_1 : decode cX12_init 1 = .ok (.invokespecial 3, 3) := dk_183 0 3 (dk_at dksX12_init_0 1 rfl rfl)
theorem dX12_init_4 : decode cX12_init 4 = .ok (.aload_n 0, 1) := dk_42 (dk_at dksX12_init_0 4 rfl rfl)
theorem dX12_init_5 : decode cX12_init 5 = .ok (.aload_n 1, 1) := dk_43 (dk_at dksX12_init_0 5 rfl rfl)
theorem dX12_init_6 : decode cX12_init 6 = .ok (.putfield 9, 3) := dk_181 0 9 (dk_at dksX12_init_0 6 rfl rfl)
theorem dX12_init_9 : decode cX12_init 9 = .ok (.return_, 1) := dk_177 (dk_at dksX12_init_0 9 rfl rfl)
abbrev cX12_orders : ByteArray := prog_7_method_7_code
def yX12_orders : MethodName := ⟨RX12, "orders", "()Ljava/util/ArrayList;"⟩
def dkwX12_orders_2 : List UInt8 := [182, 0, 86, 182, 0, 90, 61, 167, 255, 222, 43, 176]
abbrev dktX12_orders_2 : List UInt8 := dkwX12_orders_2 ++ []
def dkwX12_orders_1 : List UInt8 := [180, 0, 9, 185, 0, 19, 1, 0, 162, 0, 24, 42, 16, 59, 16, 59, 182, 0, 42, 62, 43, 42]
abbrev dktX12_orders_1 : List UInt8 := dkwX12_orders_1 ++ dktX12_orders_2
def dkwX12_orders_0 : List UInt8 := [187, 0, 83, 89, 183, 0, 85, 76, 43, 42, 182, 0, 86, 182, 0, 90, 61, 42, 180, 0, 15, 42]
abbrev dktX12_orders_0 : List UInt8 := dkwX12_orders_0 ++ dktX12_orders_1
theorem dksX12_orders_0 : cX12_orders.data.toList.drop 0 = dktX12_orders_0 := by decide +kernel
theorem dksX12_orders_1 : cX12_orders.data.toList.drop 22 = dktX12_orders_1 := dk_seg dksX12_orders_0 22 rfl rfl
theorem dksX12_orders_2 : cX12_orders.data.toList.drop 44 = dktX12_orders_2 := dk_seg dksX12_orders_1 22 rfl rfl
theorem dX12_orders_0 : decode cX12_orders 0 = .ok (.new 83, 3) := dk_187 0 83 (dk_at dksX12_orders_0 0 rfl rfl)
theorem dX12_orders_3 : decode cX12_orders 3 = .ok (.dup, 1) := dk_89 (dk_at dksX12_orders_0 3 rfl rfl)
theorem dX12_orders_4 : decode cX12_orders 4 = .ok (.invokespecial 85, 3) := dk_183 0 85 (dk_at dksX12_orders_0 4 rfl rfl)
theorem dX12_orders_7 : decode cX12_orders 7 = .ok (.astore_n 1, 1) := dk_76 (dk_at dksX12_orders_0 7 rfl rfl)
theorem dX12_orders_8 : decode cX12_orders 8 = .ok (.aload_n 1, 1) := dk_43 (dk_at dksX12_orders_0 8 rfl rfl)
theorem dX12_orders_9 : decode cX12_orders 9 = .ok (.aload_n 0, 1) := dk_42 (dk_at dksX12_orders_0 9 rfl rfl)
theorem dX12_orders_10 : decode cX12_orders 10 = .ok (.invokevirtual 86, 3) := dk_182 0 86 (dk_at dksX12_orders_0 10 rfl rfl)
theorem dX12_orders_13 : decode cX12_orders 13 = .ok (.invokevirtual 90, 3) := dk_182 0 90 (dk_at dksX12_orders_0 13 rfl rfl)
theorem dX12_orders_16 : decode cX12_orders 16 = .ok (.istore_n 2, 1) := dk_61 (dk_at dksX12_orders_0 16 rfl rfl)
theorem dX12_orders_17 : decode cX12_orders 17 = .ok (.aload_n 0, 1) := dk_42 (dk_at dksX12_orders_0 17 rfl rfl)
theorem dX12_orders_18 : decode cX12_orders 18 = .ok (.getfield 15, 3) := dk_180 0 15 (dk_at dksX12_orders_0 18 rfl rfl)
theorem dX12_orders_21 : decode cX12_orders 21 = .ok (.aload_n 0, 1) := dk_42 (dk_at dksX12_orders_0 21 rfl rfl)
theorem dX12_orders_22 : decode cX12_orders 22 = .ok (.getfield 9, 3) := dk_180 0 9 (dk_at dksX12_orders_1 0 rfl rfl)
theorem dX12_orders_25 : decode cX12_orders 25 = .ok (.invokeinterface 19 1, 5) := by decide +kernel
theorem dX12_orders_30 : decode cX12_orders 30 = .ok (.if_icmp .ge 24, 3) := dk_162 0 24 (dk_at dksX12_orders_1 8 rfl rfl)
theorem dX12_orders_33 : decode cX12_orders 33 = .ok (.aload_n 0, 1) := dk_42 (dk_at dksX12_orders_1 11 rfl rfl)
theorem dX12_orders_34 : decode cX12_orders 34 = .ok (.bipush 59, 2) := dk_16 59 (dk_at dksX12_orders_1 12 rfl rfl)
theorem dX12_orders_36 : decode cX12_orders 36 = .ok (.bipush 59, 2) := dk_16 59 (dk_at dksX12_orders_1 14 rfl rfl)
theorem dX12_orders_38 : decode cX12_orders 38 = .ok (.invokevirtual 42, 3) := dk_182 0 42 (dk_at dksX12_orders_1 16 rfl rfl)
theorem dX12_orders_41 : decode cX12_orders 41 = .ok (.istore_n 3, 1) := dk_62 (dk_at dksX12_orders_1 19 rfl rfl)
theorem dX12_orders_42 : decode cX12_orders 42 = .ok (.aload_n 1, 1) := dk_43 (dk_at dksX12_orders_1 20 rfl rfl)
theorem dX12_orders_43 : decode cX12_orders 43 = .ok (.aload_n 0, 1) := dk_42 (dk_at dksX12_orders_1 21 rfl rfl)
theorem dX12_orders_44 : decode cX12_orders 44 = .ok (.invokevirtual 86, 3) := dk_182 0 86 (dk_at dksX12_orders_2 0 rfl rfl)
theorem dX12_orders_47 : decode cX12_orders 47 = .ok (.invokevirtual 90, 3) := dk_182 0 90 (dk_at dksX12_orders_2 3 rfl rfl)
theorem dX12_orders_50 : decode cX12_orders 50 = .ok (.istore_n 2, 1) := dk_61 (dk_at dksX12_orders_2 6 rfl rfl)
theorem dX12_orders_51 : decode cX12_orders 51 = .ok (.goto (-34), 3) := dk_167 255 222 (dk_at dksX12_orders_2 7 rfl rfl)
theorem dX12_orders_54 : decode cX12_orders 54 = .ok (.aload_n 1, 1) := dk_43 (dk_at dksX12_orders_2 10 rfl rfl)
theorem dX12_orders_55 : decode cX12_orders 55 = .ok (.areturn, 1) := dk_176 (dk_at dksX12_orders_2 11 rfl rfl)
abbrev cX12_order : ByteArray := prog_7_method_6_code
def yX12_order : MethodName := ⟨RX12, "order", "()LFlockHuts$Order;"⟩
def dkwX12_order_1 : List UInt8 := [182, 0, 77, 79, 132, 3, 1, 167, 255, 240, 187, 0, 49, 89, 43, 44, 183, 0, 80, 176]
abbrev dktX12_order_1 : List UInt8 := dkwX12_order_1 ++ []
def dkwX12_order_0 : List UInt8 := [42, 182, 0, 74, 76, 43, 184, 0, 48, 188, 10, 77, 3, 62, 29, 44, 190, 162, 0, 16, 44, 29, 42]
abbrev dktX12_order_0 : List UInt8 := dkwX12_order_0 ++ dktX12_order_1
theorem dksX12_order_0 : cX12_order.data.toList.drop 0 = dktX12_order_0 := by decide +kernel
theorem dksX12_order_1 : cX12_order.data.toList.drop 23 = dktX12_order_1 := dk_seg dksX12_order_0 23 rfl rfl
theorem dX12_order_0 : decode cX12_order 0 = .ok (.aload_n 0, 1) := dk_42 (dk_at dksX12_order_0 0 rfl rfl)
theorem dX12_order_1 : decode cX12_order 1 = .ok (.invokevirtual 74, 3) := dk_182 0 74 (dk_at dksX12_order_0 1 rfl rfl)
theorem dX12_order_4 : decode cX12_order 4 = .ok (.astore_n 1, 1) := dk_76 (dk_at dksX12_order_0 4 rfl rfl)
theorem dX12_order_5 : decode cX12_order 5 = .ok (.aload_n 1, 1) := dk_43 (dk_at dksX12_order_0 5 rfl rfl)
theorem dX12_order_6 : decode cX12_order 6 = .ok (.invokestatic 48, 3) := dk_184 0 48 (dk_at dksX12_order_0 6 rfl rfl)
theorem dX12_order_9 : decode cX12_order 9 = .ok (.newarray .int, 2) := dk_188_10 (dk_at dksX12_order_0 9 rfl rfl)
theorem dX12_order_11 : decode cX12_order 11 = .ok (.astore_n 2, 1) := dk_77 (dk_at dksX12_order_0 11 rfl rfl)
theorem dX12_order_12 : decode cX12_order 12 = .ok (.iconst 0, 1) := dk_3 (dk_at dksX12_order_0 12 rfl rfl)
theorem dX12_order_13 : decode cX12_order 13 = .ok (.istore_n 3, 1) := dk_62 (dk_at dksX12_order_0 13 rfl rfl)
theorem dX12_order_14 : decode cX12_order 14 = .ok (.iload_n 3, 1) := dk_29 (dk_at dksX12_order_0 14 rfl rfl)
theorem dX12_order_15 : decode cX12_order 15 = .ok (.aload_n 2, 1) := dk_44 (dk_at dksX12_order_0 15 rfl rfl)
theorem dX12_order_16 : decode cX12_order 16 = .ok (.arraylength, 1) := dk_190 (dk_at dksX12_order_0 16 rfl rfl)
theorem dX12_order_17 : decode cX12_order 17 = .ok (.if_icmp .ge 16, 3) := dk_162 0 16 (dk_at dksX12_order_0 17 rfl rfl)
theorem dX12_order_20 : decode cX12_order 20 = .ok (.aload_n 2, 1) := dk_44 (dk_at dksX12_order_0 20 rfl rfl)
theorem dX12_order_21 : decode cX12_order 21 = .ok (.iload_n 3, 1) := dk_29 (dk_at dksX12_order_0 21 rfl rfl)
theorem dX12_order_22 : decode cX12_order 22 = .ok (.aload_n 0, 1) := dk_42 (dk_at dksX12_order_0 22 rfl rfl)
theorem dX12_order_23 : decode cX12_order 23 = .ok (.invokevirtual 77, 3) := dk_182 0 77 (dk_at dksX12_order_1 0 rfl rfl)
theorem dX12_order_26 : decode cX12_order 26 = .ok (.iastore, 1) := dk_79 (dk_at dksX12_order_1 3 rfl rfl)
theorem dX12_order_27 : decode cX12_order 27 = .ok (.iinc 3 1, 3) := dk_132 3 1 (dk_at dksX12_order_1 4 rfl rfl)
theorem dX12_order_30 : decode cX12_order 30 = .ok (.goto (-16), 3) := dk_167 255 240 (dk_at dksX12_order_1 7 rfl rfl)
theorem dX12_order_33 : decode cX12_order 33 = .ok (.new 49, 3) := dk_187 0 49 (dk_at dksX12_order_1 10 rfl rfl)
theorem dX12_order_36 : decode cX12_order 36 = .ok (.dup, 1) := dk_89 (dk_at dksX12_order_1 13 rfl rfl)
theorem dX12_order_37 : decode cX12_order 37 = .ok (.aload_n 1, 1) := dk_43 (dk_at dksX12_order_1 14 rfl rfl)
theorem dX12_order_38 : decode cX12_order 38 = .ok (.aload_n 2, 1) := dk_44 (dk_at dksX12_order_1 15 rfl rfl)
theorem dX12_order_39 : decode cX12_order 39 = .ok (.invokespecial 80, 3) := dk_183 0 80 (dk_at dksX12_order_1 16 rfl rfl)
theorem dX12_order_42 : decode cX12_order 42 = .ok (.areturn, 1) := dk_176 (dk_at dksX12_order_1 19 rfl rfl)
abbrev cX12_word : ByteArray := prog_7_method_5_code
def yX12_word : MethodName := ⟨RX12, "word", "()Ljava/lang/String;"⟩
def dkwX12_word_4 : List UInt8 := [167, 255, 165, 43, 176]
abbrev dktX12_word_4 : List UInt8 := dkwX12_word_4 ++ []
def dkwX12_word_3 : List UInt8 := [187, 0, 37, 89, 42, 180, 0, 15, 183, 0, 39, 191, 44, 76, 42, 89, 180, 0, 15, 4, 96, 181, 0, 15]
abbrev dktX12_word_3 : List UInt8 := dkwX12_word_3 ++ dktX12_word_4
def dkwX12_word_2 : List UInt8 := [185, 0, 25, 2, 0, 182, 0, 61, 182, 0, 64, 167, 0, 5, 18, 68, 77, 44, 184, 0, 70, 154, 0, 15]
abbrev dktX12_word_2 : List UInt8 := dkwX12_word_2 ++ dktX12_word_3
def dkwX12_word_1 : List UInt8 := [162, 0, 36, 187, 0, 54, 89, 183, 0, 56, 43, 182, 0, 57, 42, 180, 0, 9, 42, 180, 0, 15]
abbrev dktX12_word_1 : List UInt8 := dkwX12_word_1 ++ dktX12_word_2
def dkwX12_word_0 : List UInt8 := [18, 46, 76, 43, 184, 0, 48, 2, 160, 0, 89, 42, 180, 0, 15, 42, 180, 0, 9, 185, 0, 19, 1, 0]
abbrev dktX12_word_0 : List UInt8 := dkwX12_word_0 ++ dktX12_word_1
theorem dksX12_word_0 : cX12_word.data.toList.drop 0 = dktX12_word_0 := by decide +kernel
theorem dksX12_word_1 : cX12_word.data.toList.drop 24 = dktX12_word_1 := dk_seg dksX12_word_0 24 rfl rfl
theorem dksX12_word_2 : cX12_word.data.toList.drop 46 = dktX12_word_2 := dk_seg dksX12_word_1 22 rfl rfl
theorem dksX12_word_3 : cX12_word.data.toList.drop 70 = dktX12_word_3 := dk_seg dksX12_word_2 24 rfl rfl
theorem dksX12_word_4 : cX12_word.data.toList.drop 94 = dktX12_word_4 := dk_seg dksX12_word_3 24 rfl rfl
theorem dX12_word_0 : decode cX12_word 0 = .ok (.ldc 46, 2) := dk_18 46 (dk_at dksX12_word_0 0 rfl rfl)
theorem dX12_word_2 : decode cX12_word 2 = .ok (.astore_n 1, 1) := dk_76 (dk_at dksX12_word_0 2 rfl rfl)
theorem dX12_word_3 : decode cX12_word 3 = .ok (.aload_n 1, 1) := dk_43 (dk_at dksX12_word_0 3 rfl rfl)
theorem dX12_word_4 : decode cX12_word 4 = .ok (.invokestatic 48, 3) := dk_184 0 48 (dk_at dksX12_word_0 4 rfl rfl)
theorem dX12_word_7 : decode cX12_word 7 = .ok (.iconst (-1), 1) := dk_2 (dk_at dksX12_word_0 7 rfl rfl)
theorem dX12_word_8 : decode cX12_word 8 = .ok (.if_icmp .ne 89, 3) := dk_160 0 89 (dk_at dksX12_word_0 8 rfl rfl)
theorem dX12_word_11 : decode cX12_word 11 = .ok (.aload_n 0, 1) := dk_42 (dk_at dksX12_word_0 11 rfl rfl)
theorem dX12_word_12 : decode cX12_word 12 = .ok (.getfield 15, 3) := dk_180 0 15 (dk_at dksX12_word_0 12 rfl rfl)
theorem dX12_word_15 : decode cX12_word 15 = .ok (.aload_n 0, 1) := dk_42 (dk_at dksX12_word_0 15 rfl rfl)
theorem dX12_word_16 : decode cX12_word 16 = .ok (.getfield 9, 3) := dk_180 0 9 (dk_at dksX12_word_0 16 rfl rfl)
theorem dX12_word_19 : decode cX12_word 19 = .ok (.invokeinterface 19 1, 5) := by decide +kernel
theorem dX12_word_24 : decode cX12_word 24 = .ok (.if_icmp .ge 36, 3) := dk_162 0 36 (dk_at dksX12_word_1 0 rfl rfl)
theorem dX12_word_27 : decode cX12_word 27 = .ok (.new 54, 3) := dk_187 0 54 (dk_at dksX12_word_1 3 rfl rfl)
theorem dX12_word_30 : decode cX12_word 30 = .ok (.dup, 1) := dk_89 (dk_at dksX12_word_1 6 rfl rfl)
theorem dX12_word_31 : decode cX12_word 31 = .ok (.invokespecial 56, 3) := dk_183 0 56 (dk_at dksX12_word_1 7 rfl rfl)
theorem dX12_word_34 : decode cX12_word 34 = .ok (.aload_n 1, 1) := dk_43 (dk_at dksX12_word_1 10 rfl rfl)
theorem dX12_word_35 : decode cX12_word 35 = .ok (.invokevirtual 57, 3) := dk_182 0 57 (dk_at dksX12_word_1 11 rfl rfl)
theorem dX12_word_38 : decode cX12_word 38 = .ok (.aload_n 0, 1) := dk_42 (dk_at dksX12_word_1 14 rfl rfl)
theorem dX12_word_39 : decode cX12_word 39 = .ok (.getfield 9, 3) := dk_180 0 9 (dk_at dksX12_word_1 15 rfl rfl)
theorem dX12_word_42 : decode cX12_word 42 = .ok (.aload_n 0, 1) := dk_42 (dk_at dksX12_word_1 18 rfl rfl)
theorem dX12_word_43 : decode cX12_word 43 = .ok (.getfield 15, 3) := dk_180 0 15 (dk_at dksX12_word_1 19 rfl rfl)
theorem dX12_word_46 : decode cX12_word 46 = .ok (.invokeinterface 25 2, 5) := by decide +kernel
theorem dX12_word_51 : decode cX12_word 51 = .ok (.invokevirtual 61, 3) := dk_182 0 61 (dk_at dksX12_word_2 5 rfl rfl)
theorem dX12_word_54 : decode cX12_word 54 = .ok (.invokevirtual 64, 3) := dk_182 0 64 (dk_at dksX12_word_2 8 rfl rfl)
theorem dX12_word_57 : decode cX12_word 57 = .ok (.goto 5, 3) := dk_167 0 5 (dk_at dksX12_word_2 11 rfl rfl)
theorem dX12_word_60 : decode cX12_word 60 = .ok (.ldc 68, 2) := dk_18 68 (dk_at dksX12_word_2 14 rfl rfl)
theorem dX12_word_62 : decode cX12_word 62 = .ok (.astore_n 2, 1) := dk_77 (dk_at dksX12_word_2 16 rfl rfl)
theorem dX12_word_63 : decode cX12_word 63 = .ok (.aload_n 2, 1) := dk_44 (dk_at dksX12_word_2 17 rfl rfl)
theorem dX12_word_64 : decode cX12_word 64 = .ok (.invokestatic 70, 3) := dk_184 0 70 (dk_at dksX12_word_2 18 rfl rfl)
theorem dX12_word_67 : decode cX12_word 67 = .ok (.ifCond .ne 15, 3) := dk_154 0 15 (dk_at dksX12_word_2 21 rfl rfl)
theorem dX12_word_70 : decode cX12_word 70 = .ok (.new 37, 3) := dk_187 0 37 (dk_at dksX12_word_3 0 rfl rfl)
theorem dX12_word_73 : decode cX12_word 73 = .ok (.dup, 1) := dk_89 (dk_at dksX12_word_3 3 rfl rfl)
theorem dX12_word_74 : decode cX12_word 74 = .ok (.aload_n 0, 1) := dk_42 (dk_at dksX12_word_3 4 rfl rfl)
theorem dX12_word_75 : decode cX12_word 75 = .ok (.getfield 15, 3) := dk_180 0 15 (dk_at dksX12_word_3 5 rfl rfl)
theorem dX12_word_78 : decode cX12_word 78 = .ok (.invokespecial 39, 3) := dk_183 0 39 (dk_at dksX12_word_3 8 rfl rfl)
theorem dX12_word_81 : decode cX12_word 81 = .ok (.athrow, 1) := dk_191 (dk_at dksX12_word_3 11 rfl rfl)
theorem dX12_word_82 : decode cX12_word 82 = .ok (.aload_n 2, 1) := dk_44 (dk_at dksX12_word_3 12 rfl rfl)
theorem dX12_word_83 : decode cX12_word 83 = .ok (.astore_n 1, 1) := dk_76 (dk_at dksX12_word_3 13 rfl rfl)
theorem dX12_word_84 : decode cX12_word 84 = .ok (.aload_n 0, 1) := dk_42 (dk_at dksX12_word_3 14 rfl rfl)
theorem dX12_word_85 : decode cX12_word 85 = .ok (.dup, 1) := dk_89 (dk_at dksX12_word_3 15 rfl rfl)
theorem dX12_word_86 : decode cX12_word 86 = .ok (.getfield 15, 3) := dk_180 0 15 (dk_at dksX12_word_3 16 rfl rfl)
theorem dX12_word_89 : decode cX12_word 89 = .ok (.iconst 1, 1) := dk_4 (dk_at dksX12_word_3 19 rfl rfl)
theorem dX12_word_90 : decode cX12_word 90 = .ok (.iadd, 1) := dk_96 (dk_at dksX12_word_3 20 rfl rfl)
theorem dX12_word_91 : decode cX12_word 91 = .ok (.putfield 15, 3) := dk_181 0 15 (dk_at dksX12_word_3 21 rfl rfl)
theorem dX12_word_94 : decode cX12_word 94 = .ok (.goto (-91), 3) := dk_167 255 165 (dk_at dksX12_word_4 0 rfl rfl)
theorem dX12_word_97 : decode cX12_word 97 = .ok (.aload_n 1, 1) := dk_43 (dk_at dksX12_word_4 3 rfl rfl)
theorem dX12_word_98 : decode cX12_word 98 = .ok (.areturn, 1) := dk_176 (dk_at dksX12_word_4 4 rfl rfl)
abbrev cX12_number : ByteArray := prog_7_method_4_code
def yX12_number : MethodName := ⟨RX12, "number", "()I"⟩
def dkwX12_number_1 : List UInt8 := [182, 0, 33, 153, 0, 19, 16, 10, 28, 104, 42, 16, 48, 16, 57, 182, 0, 42, 96, 167, 0, 4, 28, 172]
abbrev dktX12_number_1 : List UInt8 := dkwX12_number_1 ++ []
def dkwX12_number_0 : List UInt8 := [42, 16, 32, 16, 32, 182, 0, 42, 60, 42, 16, 48, 16, 57, 182, 0, 42, 61, 42, 16, 48, 16, 57]
abbrev dktX12_number_0 : List UInt8 := dkwX12_number_0 ++ dktX12_number_1
theorem dksX12_number_0 : cX12_number.data.toList.drop 0 = dktX12_number_0 := by decide +kernel
theorem dksX12_number_1 : cX12_number.data.toList.drop 23 = dktX12_number_1 := dk_seg dksX12_number_0 23 rfl rfl
theorem dX12_number_0 : decode cX12_number 0 = .ok (.aload_n 0, 1) := dk_42 (dk_at dksX12_number_0 0 rfl rfl)
theorem dX12_number_1 : decode cX12_number 1 = .ok (.bipush 32, 2) := dk_16 32 (dk_at dksX12_number_0 1 rfl rfl)
theorem dX12_number_3 : decode cX12_number 3 = .ok (.bipush 32, 2) := dk_16 32 (dk_at dksX12_number_0 3 rfl rfl)
theorem dX12_number_5 : decode cX12_number 5 = .ok (.invokevirtual 42, 3) := dk_182 0 42 (dk_at dksX12_number_0 5 rfl rfl)
theorem dX12_number_8 : decode cX12_number 8 = .ok (.istore_n 1, 1) := dk_60 (dk_at dksX12_number_0 8 rfl rfl)
theorem dX12_number_9 : decode cX12_number 9 = .ok (.aload_n 0, 1) := dk_42 (dk_at dksX12_number_0 9 rfl rfl)
theorem dX12_number_10 : decode cX12_number 10 = .ok (.bipush 48, 2) := dk_16 48 (dk_at dksX12_number_0 10 rfl rfl)
theorem dX12_number_12 : decode cX12_number 12 = .ok (.bipush 57, 2) := dk_16 57 (dk_at dksX12_number_0 12 rfl rfl)
theorem dX12_number_14 : decode cX12_number 14 = .ok (.invokevirtual 42, 3) := dk_182 0 42 (dk_at dksX12_number_0 14 rfl rfl)
theorem dX12_number_17 : decode cX12_number 17 = .ok (.istore_n 2, 1) := dk_61 (dk_at dksX12_number_0 17 rfl rfl)
theorem dX12_number_18 : decode cX12_number 18 = .ok (.aload_n 0, 1) := dk_42 (dk_at dksX12_number_0 18 rfl rfl)
theorem dX12_number_19 : decode cX12_number 19 = .ok (.bipush 48, 2) := dk_16 48 (dk_at dksX12_number_0 19 rfl rfl)
theorem dX12_number_21 : decode cX12_number 21 = .ok (.bipush 57, 2) := dk_16 57 (dk_at dksX12_number_0 21 rfl rfl)
theorem dX12_number_23 : decode cX12_number 23 = .ok (.invokevirtual 33, 3) := dk_182 0 33 (dk_at dksX12_number_1 0 rfl rfl)
theorem dX12_number_26 : decode cX12_number 26 = .ok (.ifCond .eq 19, 3) := dk_153 0 19 (dk_at dksX12_number_1 3 rfl rfl)
theorem dX12_number_29 : decode cX12_number 29 = .ok (.bipush 10, 2) := dk_16 10 (dk_at dksX12_number_1 6 rfl rfl)
theorem dX12_number_31 : decode cX12_number 31 = .ok (.iload_n 2, 1) := dk_28 (dk_at dksX12_number_1 8 rfl rfl)
theorem dX12_number_32 : decode cX12_number 32 = .ok (.imul, 1) := dk_104 (dk_at dksX12_number_1 9 rfl rfl)
theorem dX12_number_33 : decode cX12_number 33 = .ok (.aload_n 0, 1) := dk_42 (dk_at dksX12_number_1 10 rfl rfl)
theorem dX12_number_34 : decode cX12_number 34 = .ok (.bipush 48, 2) := dk_16 48 (dk_at dksX12_number_1 11 rfl rfl)
theorem dX12_number_36 : decode cX12_number 36 = .ok (.bipush 57, 2) := dk_16 57 (dk_at dksX12_number_1 13 rfl rfl)
theorem dX12_number_38 : decode cX12_number 38 = .ok (.invokevirtual 42, 3) := dk_182 0 42 (dk_at dksX12_number_1 15 rfl rfl)
theorem dX12_number_41 : decode cX12_number 41 = .ok (.iadd, 1) := dk_96 (dk_at dksX12_number_1 18 rfl rfl)
theorem dX12_number_42 : decode cX12_number 42 = .ok (.goto 4, 3) := dk_167 0 4 (dk_at dksX12_number_1 19 rfl rfl)
theorem dX12_number_45 : decode cX12_number 45 = .ok (.iload_n 2, 1) := dk_28 (dk_at dksX12_number_1 22 rfl rfl)
theorem dX12_number_46 : decode cX12_number 46 = .ok (.ireturn, 1) := dk_172 (dk_at dksX12_number_1 23 rfl rfl)
abbrev cX12_take : ByteArray := prog_7_method_3_code
def yX12_take : MethodName := ⟨RX12, "take", "(II)I"⟩
def dkwX12_take_2 : List UInt8 := [100, 172]
abbrev dktX12_take_2 : List UInt8 := dkwX12_take_2 ++ []
def dkwX12_take_1 : List UInt8 := [180, 0, 15, 4, 96, 181, 0, 15, 42, 180, 0, 9, 42, 180, 0, 15, 4, 100, 185, 0, 25, 2, 0, 27]
abbrev dktX12_take_1 : List UInt8 := dkwX12_take_1 ++ dktX12_take_2
def dkwX12_take_0 : List UInt8 := [42, 27, 28, 182, 0, 33, 154, 0, 15, 187, 0, 37, 89, 42, 180, 0, 15, 183, 0, 39, 191, 42, 89]
abbrev dktX12_take_0 : List UInt8 := dkwX12_take_0 ++ dktX12_take_1
theorem dksX12_take_0 : cX12_take.data.toList.drop 0 = dktX12_take_0 := by decide +kernel
theorem dksX12_take_1 : cX12_take.data.toList.drop 23 = dktX12_take_1 := dk_seg dksX12_take_0 23 rfl rfl
theorem dksX12_take_2 : cX12_take.data.toList.drop 47 = dktX12_take_2 := dk_seg dksX12_take_1 24 rfl rfl
theorem dX12_take_0 : decode cX12_take 0 = .ok (.aload_n 0, 1) := dk_42 (dk_at dksX12_take_0 0 rfl rfl)
theorem dX12_take_1 : decode cX12_take 1 = .ok (.iload_n 1, 1) := dk_27 (dk_at dksX12_take_0 1 rfl rfl)
theorem dX12_take_2 : decode cX12_take 2 = .ok (.iload_n 2, 1) := dk_28 (dk_at dksX12_take_0 2 rfl rfl)
theorem dX12_take_3 : decode cX12_take 3 = .ok (.invokevirtual 33, 3) := dk_182 0 33 (dk_at dksX12_take_0 3 rfl rfl)
theorem dX12_take_6 : decode cX12_take 6 = .ok (.ifCond .ne 15, 3) := dk_154 0 15 (dk_at dksX12_take_0 6 rfl rfl)
theorem dX12_take_9 : decode cX12_take 9 = .ok (.new 37, 3) := dk_187 0 37 (dk_at dksX12_take_0 9 rfl rfl)
theorem dX12_take_12 : decode cX12_take 12 = .ok (.dup, 1) := dk_89 (dk_at dksX12_take_0 12 rfl rfl)
theorem dX12_take_13 : decode cX12_take 13 = .ok (.aload_n 0, 1) := dk_42 (dk_at dksX12_take_0 13 rfl rfl)
theorem dX12_take_14 : decode cX12_take 14 = .ok (.getfield 15, 3) := dk_180 0 15 (dk_at dksX12_take_0 14 rfl rfl)
theorem dX12_take_17 : decode cX12_take 17 = .ok (.invokespecial 39, 3) := dk_183 0 39 (dk_at dksX12_take_0 17 rfl rfl)
theorem dX12_take_20 : decode cX12_take 20 = .ok (.athrow, 1) := dk_191 (dk_at dksX12_take_0 20 rfl rfl)
theorem dX12_take_21 : decode cX12_take 21 = .ok (.aload_n 0, 1) := dk_42 (dk_at dksX12_take_0 21 rfl rfl)
theorem dX12_take_22 : decode cX12_take 22 = .ok (.dup, 1) := dk_89 (dk_at dksX12_take_0 22 rfl rfl)
theorem dX12_take_23 : decode cX12_take 23 = .ok (.getfield 15, 3) := dk_180 0 15 (dk_at dksX12_take_1 0 rfl rfl)
theorem dX12_take_26 : decode cX12_take 26 = .ok (.iconst 1, 1) := dk_4 (dk_at dksX12_take_1 3 rfl rfl)
theorem dX12_take_27 : decode cX12_take 27 = .ok (.iadd, 1) := dk_96 (dk_at dksX12_take_1 4 rfl rfl)
theorem dX12_take_28 : decode cX12_take 28 = .ok (.putfield 15, 3) := dk_181 0 15 (dk_at dksX12_take_1 5 rfl rfl)
theorem dX12_take_31 : decode cX12_take 31 = .ok (.aload_n 0, 1) := dk_42 (dk_at dksX12_take_1 8 rfl rfl)
theorem dX12_take_32 : decode cX12_take 32 = .ok (.getfield 9, 3) := dk_180 0 9 (dk_at dksX12_take_1 9 rfl rfl)
theorem dX12_take_35 : decode cX12_take 35 = .ok (.aload_n 0, 1) := dk_42 (dk_at dksX12_take_1 12 rfl rfl)
theorem dX12_take_36 : decode cX12_take 36 = .ok (.getfield 15, 3) := dk_180 0 15 (dk_at dksX12_take_1 13 rfl rfl)
theorem dX12_take_39 : decode cX12_take 39 = .ok (.iconst 1, 1) := dk_4 (dk_at dksX12_take_1 16 rfl rfl)
theorem dX12_take_40 : decode cX12_take 40 = .ok (.isub, 1) := dk_100 (dk_at dksX12_take_1 17 rfl rfl)
theorem dX12_take_41 : decode cX12_take 41 = .ok (.invokeinterface 25 2, 5) := by decide +kernel
theorem dX12_take_46 : decode cX12_take 46 = .ok (.iload_n 1, 1) := dk_27 (dk_at dksX12_take_1 23 rfl rfl)
theorem dX12_take_47 : decode cX12_take 47 = .ok (.isub, 1) := dk_100 (dk_at dksX12_take_2 0 rfl rfl)
theorem dX12_take_48 : decode cX12_take 48 = .ok (.ireturn, 1) := dk_172 (dk_at dksX12_take_2 1 rfl rfl)
abbrev cX12_isNext : ByteArray := prog_7_method_2_code
def yX12_isNext : MethodName := ⟨RX12, "isNext", "(II)Z"⟩
def dkwX12_isNext_1 : List UInt8 := [185, 0, 25, 2, 0, 133, 27, 133, 28, 133, 184, 0, 29, 153, 0, 7, 4, 167, 0, 4, 3, 172]
abbrev dktX12_isNext_1 : List UInt8 := dkwX12_isNext_1 ++ []
def dkwX12_isNext_0 : List UInt8 := [42, 180, 0, 15, 42, 180, 0, 9, 185, 0, 19, 1, 0, 162, 0, 31, 42, 180, 0, 9, 42, 180, 0, 15]
abbrev dktX12_isNext_0 : List UInt8 := dkwX12_isNext_0 ++ dktX12_isNext_1
theorem dksX12_isNext_0 : cX12_isNext.data.toList.drop 0 = dktX12_isNext_0 := by decide +kernel
theorem dksX12_isNext_1 : cX12_isNext.data.toList.drop 24 = dktX12_isNext_1 := dk_seg dksX12_isNext_0 24 rfl rfl
theorem dX12_isNext_0 : decode cX12_isNext 0 = .ok (.aload_n 0, 1) := dk_42 (dk_at dksX12_isNext_0 0 rfl rfl)
theorem dX12_isNext_1 : decode cX12_isNext 1 = .ok (.getfield 15, 3) := dk_180 0 15 (dk_at dksX12_isNext_0 1 rfl rfl)
theorem dX12_isNext_4 : decode cX12_isNext 4 = .ok (.aload_n 0, 1) := dk_42 (dk_at dksX12_isNext_0 4 rfl rfl)
theorem dX12_isNext_5 : decode cX12_isNext 5 = .ok (.getfield 9, 3) := dk_180 0 9 (dk_at dksX12_isNext_0 5 rfl rfl)
theorem dX12_isNext_8 : decode cX12_isNext 8 = .ok (.invokeinterface 19 1, 5) := by decide +kernel
theorem dX12_isNext_13 : decode cX12_isNext 13 = .ok (.if_icmp .ge 31, 3) := dk_162 0 31 (dk_at dksX12_isNext_0 13 rfl rfl)
theorem dX12_isNext_16 : decode cX12_isNext 16 = .ok (.aload_n 0, 1) := dk_42 (dk_at dksX12_isNext_0 16 rfl rfl)
theorem dX12_isNext_17 : decode cX12_isNext 17 = .ok (.getfield 9, 3) := dk_180 0 9 (dk_at dksX12_isNext_0 17 rfl rfl)
theorem dX12_isNext_20 : decode cX12_isNext 20 = .ok (.aload_n 0, 1) := dk_42 (dk_at dksX12_isNext_0 20 rfl rfl)
theorem dX12_isNext_21 : decode cX12_isNext 21 = .ok (.getfield 15, 3) := dk_180 0 15 (dk_at dksX12_isNext_0 21 rfl rfl)
theorem dX12_isNext_24 : decode cX12_isNext 24 = .ok (.invokeinterface 25 2, 5) := by decide +kernel
theorem dX12_isNext_29 : decode cX12_isNext 29 = .ok (.i2l, 1) := dk_133 (dk_at dksX12_isNext_1 5 rfl rfl)
theorem dX12_isNext_30 : decode cX12_isNext 30 = .ok (.iload_n 1, 1) := dk_27 (dk_at dksX12_isNext_1 6 rfl rfl)
theorem dX12_isNext_31 : decode cX12_isNext 31 = .ok (.i2l, 1) := dk_133 (dk_at dksX12_isNext_1 7 rfl rfl)
theorem dX12_isNext_32 : decode cX12_isNext 32 = .ok (.iload_n 2, 1) := dk_28 (dk_at dksX12_isNext_1 8 rfl rfl)
theorem dX12_isNext_33 : decode cX12_isNext 33 = .ok (.i2l, 1) := dk_133 (dk_at dksX12_isNext_1 9 rfl rfl)
theorem dX12_isNext_34 : decode cX12_isNext 34 = .ok (.invokestatic 29, 3) := dk_184 0 29 (dk_at dksX12_isNext_1 10 rfl rfl)
theorem dX12_isNext_37 : decode cX12_isNext 37 = .ok (.ifCond .eq 7, 3) := dk_153 0 7 (dk_at dksX12_isNext_1 13 rfl rfl)
theorem dX12_isNext_40 : decode cX12_isNext 40 = .ok (.iconst 1, 1) := dk_4 (dk_at dksX12_isNext_1 16 rfl rfl)
theorem dX12_isNext_41 : decode cX12_isNext 41 = .ok (.goto 4, 3) := dk_167 0 4 (dk_at dksX12_isNext_1 17 rfl rfl)
theorem dX12_isNext_44 : decode cX12_isNext 44 = .ok (.iconst 0, 1) := dk_3 (dk_at dksX12_isNext_1 20 rfl rfl)
theorem dX12_isNext_45 : decode cX12_isNext 45 = .ok (.ireturn, 1) := dk_172 (dk_at dksX12_isNext_1 21 rfl rfl)
theorem q116 : (Jvm.Cond.initialized "FlockHuts$Parser") ∈ lw_all := lw_g (lw_at lw_m1 40 rfl) rfl
theorem q530 : (Jvm.Cond.selects "FlockHuts$Parser" ({ cls := "java/lang/Object", name := "getClass", desc := "()Ljava/lang/Class;" } : Jvm.MethodName) ({ cls := "java/lang/Object", name := "getClass", desc := "()Ljava/lang/Class;" } : Jvm.MethodName)) ∈ lw_all := lw_g (lw_at lw_m2 214 rfl) rfl
theorem q1254 : (Jvm.Cond.selects "FlockHuts$Parser" ({ cls := "java/lang/Object", name := "equals", desc := "(Ljava/lang/Object;)Z" } : Jvm.MethodName) ({ cls := "java/lang/Object", name := "equals", desc := "(Ljava/lang/Object;)Z" } : Jvm.MethodName)) ∈ lw_all := lw_g (lw_at lw_m5 218 rfl) rfl
theorem q1763 : (Jvm.Cond.instantiable "FlockHuts$Parser" (2 : Nat)) ∈ lw_all := lw_g (lw_at lw_m8 7 rfl) rfl
theorem q1765 : (Jvm.Cond.instanceMethod ({ cls := "FlockHuts$Parser", name := "<init>", desc := "(Ljava/lang/CharSequence;)V" } : Jvm.MethodName)) ∈ lw_all := lw_g (lw_at lw_m8 9 rfl) rfl
theorem q1766 : (Jvm.Cond.code ({ cls := "FlockHuts$Parser", name := "<init>", desc := "(Ljava/lang/CharSequence;)V" } : Jvm.MethodName) prog_7_method_1_code (2 : Nat) (Option.none : Option Jvm.ClassFile.FieldType)) ∈ lw_all := lw_g (lw_at lw_m8 10 rfl) rfl
theorem q1767 : (Jvm.Cond.methodLink "FlockHuts$Parser" (3 : Nat) ({ cls := "java/lang/Object", name := "<init>", desc := "()V" } : Jvm.MethodName)) ∈ lw_all := lw_g (lw_at lw_m8 11 rfl) rfl
theorem q1768 : (Jvm.Cond.fieldLink "FlockHuts$Parser" (9 : Nat) "FlockHuts$Parser" "text" "Ljava/lang/CharSequence;") ∈ lw_all := lw_g (lw_at lw_m8 12 rfl) rfl
theorem q1769 : (Jvm.Cond.fieldLink "FlockHuts$Parser" (15 : Nat) "FlockHuts$Parser" "position" "I") ∈ lw_all := lw_g (lw_at lw_m8 13 rfl) rfl
theorem q1770 : (Jvm.Cond.laysFinal "FlockHuts$Parser" "FlockHuts$Parser" "text" "Ljava/lang/CharSequence;") ∈ lw_all := lw_g (lw_at lw_m8 14 rfl) rfl
theorem q1771 : (Jvm.Cond.soleField "FlockHuts$Parser" "text") ∈ lw_all := lw_g (lw_at lw_m8 15 rfl) rfl
theorem q1772 : (Jvm.Cond.lays "FlockHuts$Parser" "FlockHuts$Parser" "position" "I") ∈ lw_all := lw_g (lw_at lw_m8 16 rfl) rfl
theorem q1773 : (Jvm.Cond.soleField "FlockHuts$Parser" "position") ∈ lw_all := lw_g (lw_at lw_m8 17 rfl) rfl
theorem q1774 : (Jvm.Cond.superclass "FlockHuts$Parser" "java/lang/Object") ∈ lw_all := lw_g (lw_at lw_m8 18 rfl) rfl
theorem q1776 : (Jvm.Cond.instanceMethod ({ cls := "FlockHuts$Parser", name := "orders", desc := "()Ljava/util/ArrayList;" } : Jvm.MethodName)) ∈ lw_all := lw_g (lw_at lw_m8 20 rfl) rfl
theorem q1777 : (Jvm.Cond.selects "FlockHuts$Parser" ({ cls := "FlockHuts$Parser", name := "orders", desc := "()Ljava/util/ArrayList;" } : Jvm.MethodName) ({ cls := "FlockHuts$Parser", name := "orders", desc := "()Ljava/util/ArrayList;" } : Jvm.MethodName)) ∈ lw_all := lw_g (lw_at lw_m8 21 rfl) rfl
theorem q1778 : (Jvm.Cond.code ({ cls := "FlockHuts$Parser", name := "orders", desc := "()Ljava/util/ArrayList;" } : Jvm.MethodName) prog_7_method_7_code (4 : Nat) (Option.some (Jvm.ClassFile.FieldType.object "java/util/ArrayList"))) ∈ lw_all := lw_g (lw_at lw_m8 22 rfl) rfl
theorem q1779 : (Jvm.Cond.classLink "FlockHuts$Parser" (83 : Nat) "java/util/ArrayList") ∈ lw_all := lw_g (lw_at lw_m8 23 rfl) rfl
theorem q1780 : (Jvm.Cond.methodLink "FlockHuts$Parser" (85 : Nat) ({ cls := "java/util/ArrayList", name := "<init>", desc := "()V" } : Jvm.MethodName)) ∈ lw_all := lw_g (lw_at lw_m8 24 rfl) rfl
theorem q1781 : (Jvm.Cond.methodLink "FlockHuts$Parser" (86 : Nat) ({ cls := "FlockHuts$Parser", name := "order", desc := "()LFlockHuts$Order;" } : Jvm.MethodName)) ∈ lw_all := lw_g (lw_at lw_m8 25 rfl) rfl
theorem q1782 : (Jvm.Cond.privateMethod ({ cls := "FlockHuts$Parser", name := "order", desc := "()LFlockHuts$Order;" } : Jvm.MethodName)) ∈ lw_tbl := lw_at lw_m8 26 rfl
theorem q1783 : (Jvm.Cond.instanceMethod ({ cls := "FlockHuts$Parser", name := "order", desc := "()LFlockHuts$Order;" } : Jvm.MethodName)) ∈ lw_all := lw_g (lw_at lw_m8 27 rfl) rfl
theorem q1784 : (Jvm.Cond.code ({ cls := "FlockHuts$Parser", name := "order", desc := "()LFlockHuts$Order;" } : Jvm.MethodName) prog_7_method_6_code (4 : Nat) (Option.some (Jvm.ClassFile.FieldType.object "FlockHuts$Order"))) ∈ lw_all := lw_g (lw_at lw_m8 28 rfl) rfl
theorem q1785 : (Jvm.Cond.methodLink "FlockHuts$Parser" (74 : Nat) ({ cls := "FlockHuts$Parser", name := "word", desc := "()Ljava/lang/String;" } : Jvm.MethodName)) ∈ lw_all := lw_g (lw_at lw_m8 29 rfl) rfl
theorem q1786 : (Jvm.Cond.privateMethod ({ cls := "FlockHuts$Parser", name := "word", desc := "()Ljava/lang/String;" } : Jvm.MethodName)) ∈ lw_tbl := lw_at lw_m8 30 rfl
theorem q1787 : (Jvm.Cond.instanceMethod ({ cls := "FlockHuts$Parser", name := "word", desc := "()Ljava/lang/String;" } : Jvm.MethodName)) ∈ lw_all := lw_g (lw_at lw_m8 31 rfl) rfl
theorem q1788 : (Jvm.Cond.code ({ cls := "FlockHuts$Parser", name := "word", desc := "()Ljava/lang/String;" } : Jvm.MethodName) prog_7_method_5_code (3 : Nat) (Option.some (Jvm.ClassFile.FieldType.object "java/lang/String"))) ∈ lw_all := lw_g (lw_at lw_m8 32 rfl) rfl
theorem q1789 : (Jvm.Cond.stringRef "FlockHuts$Parser" (46 : Nat) "") ∈ lw_tbl := lw_at lw_m8 33 rfl
theorem q1790 : (Jvm.Cond.methodLink "FlockHuts$Parser" (48 : Nat) ({ cls := "FlockHuts$Order", name := "numbers", desc := "(Ljava/lang/String;)I" } : Jvm.MethodName)) ∈ lw_all := lw_g (lw_at lw_m8 34 rfl) rfl
theorem q1794 : (Jvm.Cond.interfaceEntry "FlockHuts$Parser" (19 : Nat)) ∈ lw_tbl := lw_at lw_m8 38 rfl
theorem q1795 : (Jvm.Cond.methodLink "FlockHuts$Parser" (19 : Nat) ({ cls := "java/lang/CharSequence", name := "length", desc := "()I" } : Jvm.MethodName)) ∈ lw_all := lw_g (lw_at lw_m8 39 rfl) rfl
theorem q1806 : (Jvm.Cond.classLink "FlockHuts$Parser" (54 : Nat) "java/lang/StringBuilder") ∈ lw_all := lw_g (lw_at lw_m8 50 rfl) rfl
theorem q1807 : (Jvm.Cond.methodLink "FlockHuts$Parser" (56 : Nat) ({ cls := "java/lang/StringBuilder", name := "<init>", desc := "()V" } : Jvm.MethodName)) ∈ lw_all := lw_g (lw_at lw_m8 51 rfl) rfl
theorem q1808 : (Jvm.Cond.methodLink "FlockHuts$Parser" (57 : Nat) ({ cls := "java/lang/StringBuilder", name := "append", desc := "(Ljava/lang/String;)Ljava/lang/StringBuilder;" } : Jvm.MethodName)) ∈ lw_all := lw_g (lw_at lw_m8 52 rfl) rfl
theorem q1809 : (Jvm.Cond.interfaceEntry "FlockHuts$Parser" (25 : Nat)) ∈ lw_tbl := lw_at lw_m8 53 rfl
theorem q1810 : (Jvm.Cond.methodLink "FlockHuts$Parser" (25 : Nat) ({ cls := "java/lang/CharSequence", name := "charAt", desc := "(I)C" } : Jvm.MethodName)) ∈ lw_all := lw_g (lw_at lw_m8 54 rfl) rfl
theorem q1827 : (Jvm.Cond.methodLink "FlockHuts$Parser" (61 : Nat) ({ cls := "java/lang/StringBuilder", name := "append", desc := "(C)Ljava/lang/StringBuilder;" } : Jvm.MethodName)) ∈ lw_all := lw_g (lw_at lw_m8 71 rfl) rfl
theorem q1828 : (Jvm.Cond.methodLink "FlockHuts$Parser" (64 : Nat) ({ cls := "java/lang/StringBuilder", name := "toString", desc := "()Ljava/lang/String;" } : Jvm.MethodName)) ∈ lw_all := lw_g (lw_at lw_m8 72 rfl) rfl
theorem q1829 : (Jvm.Cond.stringRef "FlockHuts$Parser" (68 : Nat) "-") ∈ lw_tbl := lw_at lw_m8 73 rfl
theorem q1830 : (Jvm.Cond.methodLink "FlockHuts$Parser" (70 : Nat) ({ cls := "FlockHuts$Order", name := "begins", desc := "(Ljava/lang/String;)Z" } : Jvm.MethodName)) ∈ lw_all := lw_g (lw_at lw_m8 74 rfl) rfl
theorem q1877 : (Jvm.Cond.classLink "FlockHuts$Parser" (37 : Nat) "FlockHuts$SyntaxException") ∈ lw_all := lw_g (lw_at lw_m8 121 rfl) rfl
theorem q1886 : (Jvm.Cond.methodLink "FlockHuts$Parser" (39 : Nat) ({ cls := "FlockHuts$SyntaxException", name := "<init>", desc := "(I)V" } : Jvm.MethodName)) ∈ lw_all := lw_g (lw_at lw_m8 130 rfl) rfl
theorem q1896 : (Jvm.Cond.methodLink "FlockHuts$Parser" (77 : Nat) ({ cls := "FlockHuts$Parser", name := "number", desc := "()I" } : Jvm.MethodName)) ∈ lw_all := lw_g (lw_at lw_m8 140 rfl) rfl
theorem q1897 : (Jvm.Cond.privateMethod ({ cls := "FlockHuts$Parser", name := "number", desc := "()I" } : Jvm.MethodName)) ∈ lw_tbl := lw_at lw_m8 141 rfl
theorem q1898 : (Jvm.Cond.instanceMethod ({ cls := "FlockHuts$Parser", name := "number", desc := "()I" } : Jvm.MethodName)) ∈ lw_all := lw_g (lw_at lw_m8 142 rfl) rfl
theorem q1899 : (Jvm.Cond.code ({ cls := "FlockHuts$Parser", name := "number", desc := "()I" } : Jvm.MethodName) prog_7_method_4_code (3 : Nat) (Option.some Jvm.ClassFile.FieldType.int)) ∈ lw_all := lw_g (lw_at lw_m8 143 rfl) rfl
theorem q1900 : (Jvm.Cond.methodLink "FlockHuts$Parser" (42 : Nat) ({ cls := "FlockHuts$Parser", name := "take", desc := "(II)I" } : Jvm.MethodName)) ∈ lw_all := lw_g (lw_at lw_m8 144 rfl) rfl
theorem q1901 : (Jvm.Cond.privateMethod ({ cls := "FlockHuts$Parser", name := "take", desc := "(II)I" } : Jvm.MethodName)) ∈ lw_tbl := lw_at lw_m8 145 rfl
theorem q1902 : (Jvm.Cond.instanceMethod ({ cls := "FlockHuts$Parser", name := "take", desc := "(II)I" } : Jvm.MethodName)) ∈ lw_all := lw_g (lw_at lw_m8 146 rfl) rfl
theorem q1903 : (Jvm.Cond.code ({ cls := "FlockHuts$Parser", name := "take", desc := "(II)I" } : Jvm.MethodName) prog_7_method_3_code (3 : Nat) (Option.some Jvm.ClassFile.FieldType.int)) ∈ lw_all := lw_g (lw_at lw_m8 147 rfl) rfl
theorem q1904 : (Jvm.Cond.methodLink "FlockHuts$Parser" (33 : Nat) ({ cls := "FlockHuts$Parser", name := "isNext", desc := "(II)Z" } : Jvm.MethodName)) ∈ lw_all := lw_g (lw_at lw_m8 148 rfl) rfl
theorem q1905 : (Jvm.Cond.privateMethod ({ cls := "FlockHuts$Parser", name := "isNext", desc := "(II)Z" } : Jvm.MethodName)) ∈ lw_tbl := lw_at lw_m8 149 rfl
theorem q1906 : (Jvm.Cond.instanceMethod ({ cls := "FlockHuts$Parser", name := "isNext", desc := "(II)Z" } : Jvm.MethodName)) ∈ lw_all := lw_g (lw_at lw_m8 150 rfl) rfl
theorem q1907 : (Jvm.Cond.code ({ cls := "FlockHuts$Parser", name := "isNext", desc := "(II)Z" } : Jvm.MethodName) prog_7_method_2_code (3 : Nat) (Option.some Jvm.ClassFile.FieldType.boolean)) ∈ lw_all := lw_g (lw_at lw_m8 151 rfl) rfl
theorem q1908 : (Jvm.Cond.methodLinkNest "FlockHuts$Parser" (29 : Nat) ({ cls := "FlockHuts", name := "inRange", desc := "(JJJ)Z" } : Jvm.MethodName) "FlockHuts") ∈ lw_tbl := lw_at lw_m8 152 rfl
theorem q1909 : (Jvm.Cond.classLink "FlockHuts$Parser" (49 : Nat) "FlockHuts$Order") ∈ lw_all := lw_g (lw_at lw_m8 153 rfl) rfl
theorem q1910 : (Jvm.Cond.methodLink "FlockHuts$Parser" (80 : Nat) ({ cls := "FlockHuts$Order", name := "<init>", desc := "(Ljava/lang/String;[I)V" } : Jvm.MethodName)) ∈ lw_all := lw_g (lw_at lw_m8 154 rfl) rfl
theorem q1911 : (Jvm.Cond.methodLink "FlockHuts$Parser" (90 : Nat) ({ cls := "java/util/ArrayList", name := "add", desc := "(Ljava/lang/Object;)Z" } : Jvm.MethodName)) ∈ lw_all := lw_g (lw_at lw_m8 155 rfl) rfl
theorem q2460 : (Jvm.Cond.castable "FlockHuts$Parser" "java/lang/Object") ∈ lw_tbl := lw_at lw_m10 224 rfl
theorem in_X12 : ∀ w ∈ wsX120, w ∈ lw_all := lw_in wsX120 [1770, 1772] (by decide +kernel) (by decide +kernel)

/-! FlockHuts$SyntaxException -/
set_option maxRecDepth 100000
def RX13 : String := "FlockHuts$SyntaxException"
def TX13 : u_T := fun k => match k with
  | 0 => ("java/lang/Throwable", "cause", "Ljava/lang/Throwable;", false)
  | 1 => ("java/lang/Throwable", "stackTrace", "[Ljava/lang/StackTraceElement;", false)
  | 2 => ("java/lang/Throwable", "suppressedExceptions", "Ljava/util/List;", false)
  | 3 => ("java/lang/Throwable", "detailMessage", "Ljava/lang/String;", false)
  | 4 => ("java/lang/Throwable", "backtrace", "Ljava/lang/Object;", false)
  | 5 => ("java/lang/Throwable", "depth", "I", false)
  | _ => ("FlockHuts$SyntaxException", "position", "I", true)
def tyX13 : Nat → FieldType := fun k => match k with
  | 0 => .object "java/lang/Throwable"
  | 1 => .array (.object "java/lang/StackTraceElement")
  | 2 => .object "java/util/List"
  | 3 => .object "java/lang/String"
  | 4 => .object "java/lang/Object"
  | 5 => .int
  | _ => .int
abbrev wsX130 : List Cond := u_ws RX13 TX13 7
theorem nmX13 : ∀ a, a < 7 → ∀ b, b < 7 → a ≠ b → (TX13 a).2.1 ≠ (TX13 b).2.1 := by decide +kernel
theorem tyX13_ok : ∀ k, k < 7 → parseFieldDescriptor (TX13 k).2.2.1 = some (tyX13 k) := by decide +kernel
abbrev cX13_init : ByteArray := prog_12_method_1_code
def yX13_init : MethodName := ⟨RX13, "<init>", "(I)V"⟩
def dkwX13_init_0 : List UInt8 := [42, 1, 1, 3, 3, 183, 0, 1, 42, 27, 181, 0, 7, 177]
abbrev dktX13_init_0 : List UInt8 := dkwX13_init_0 ++ []
theorem dksX13_init_0 : cX13_init.data.toList.drop 0 = dktX13_init_0 := by decide +kernel
theorem dX13_init_0 : decode cX13_init 0 = .ok (.aload_n 0, 1) := dk_42 (dk_at dksX13_init_0 0 rfl rfl)
theorem dX13_init_1 : decode cX13_init 1 = .ok (.aconst_null, 1) := dk_1 (dk_at dksX13_init_0 1 rfl rfl)
theorem dX13_init_2 : decode cX13_init 2 = .ok (.aconst_null, 1) := dk_1 (dk_at dksX13_init_0 2 rfl rfl)
theorem dX13_init_3 : decode cX13_init 3 = .ok (.iconst 0, 1) := dk_3 (dk_at dksX13_init_0 3 rfl rfl)
theorem dX13_init_4 : decode cX13_init 4 = .ok (.iconst 0, 1) := dk_3 (dk_at dksX13_init_0 4 rfl rfl)
theorem dX13_init_5 : decode cX13_init 5 = .ok (.invokespecial 1, 3) := dk_183 0 1 (dk_at dksX13_init_0 5 rfl rfl)
theorem dX13_init_8 : decode cX13_init 8 = .ok (.aload_n 0, 1) := dk_42 (dk_at dksX13_init_0 8 rfl rfl)
theorem dX13_init_9 : decode cX13_init 9 = .ok (.iload_n 1, 1) := dk_27 (dk_at dksX13_init_0 9 rfl rfl)
theorem dX13_init_10 : decode cX13_init 10 = .ok (.putfield 7, 3) := dk_181 0 7 (dk_at dksX13_init_0 10 rfl rfl)
theorem dX13_init_13 : decode cX13_init 13 = .ok (.return_, 1) := dk_177 (dk_at dksX13_init_0 13 rfl rfl)
theorem q117 : (Jvm.Cond.initialized "FlockHuts$SyntaxException") ∈ lw_all := lw_g (lw_at lw_m1 41 rfl) rfl
theorem q389 : (Jvm.Cond.selects "FlockHuts$SyntaxException" ({ cls := "java/lang/Throwable", name := "fillInStackTrace", desc := "()Ljava/lang/Throwable;" } : Jvm.MethodName) ({ cls := "java/lang/Throwable", name := "fillInStackTrace", desc := "()Ljava/lang/Throwable;" } : Jvm.MethodName)) ∈ lw_all := lw_g (lw_at lw_m2 73 rfl) rfl
theorem q534 : (Jvm.Cond.selects "FlockHuts$SyntaxException" ({ cls := "java/lang/Object", name := "getClass", desc := "()Ljava/lang/Class;" } : Jvm.MethodName) ({ cls := "java/lang/Object", name := "getClass", desc := "()Ljava/lang/Class;" } : Jvm.MethodName)) ∈ lw_all := lw_g (lw_at lw_m2 218 rfl) rfl
theorem q1258 : (Jvm.Cond.selects "FlockHuts$SyntaxException" ({ cls := "java/lang/Object", name := "equals", desc := "(Ljava/lang/Object;)Z" } : Jvm.MethodName) ({ cls := "java/lang/Object", name := "equals", desc := "(Ljava/lang/Object;)Z" } : Jvm.MethodName)) ∈ lw_all := lw_g (lw_at lw_m5 222 rfl) rfl
theorem q1878 : (Jvm.Cond.instantiable "FlockHuts$SyntaxException" (7 : Nat)) ∈ lw_all := lw_g (lw_at lw_m8 122 rfl) rfl
theorem q1879 : (Jvm.Cond.castable "FlockHuts$SyntaxException" "FlockHuts$SyntaxException") ∈ lw_tbl := lw_at lw_m8 123 rfl
theorem q1880 : (Jvm.Cond.selects "FlockHuts$SyntaxException" ({ cls := "java/lang/Throwable", name := "fillInStackTrace", desc := "(I)Ljava/lang/Throwable;" } : Jvm.MethodName) ({ cls := "java/lang/Throwable", name := "fillInStackTrace", desc := "(I)Ljava/lang/Throwable;" } : Jvm.MethodName)) ∈ lw_all := lw_g (lw_at lw_m8 124 rfl) rfl
theorem q1881 : (Jvm.Cond.lays "FlockHuts$SyntaxException" "java/lang/Throwable" "cause" "Ljava/lang/Throwable;") ∈ lw_all := lw_g (lw_at lw_m8 125 rfl) rfl
theorem q1882 : (Jvm.Cond.lays "FlockHuts$SyntaxException" "java/lang/Throwable" "stackTrace" "[Ljava/lang/StackTraceElement;") ∈ lw_all := lw_g (lw_at lw_m8 126 rfl) rfl
theorem q1883 : (Jvm.Cond.lays "FlockHuts$SyntaxException" "java/lang/Throwable" "suppressedExceptions" "Ljava/util/List;") ∈ lw_all := lw_g (lw_at lw_m8 127 rfl) rfl
theorem q1884 : (Jvm.Cond.lays "FlockHuts$SyntaxException" "java/lang/Throwable" "detailMessage" "Ljava/lang/String;") ∈ lw_all := lw_g (lw_at lw_m8 128 rfl) rfl
theorem q1885 : (Jvm.Cond.lays "FlockHuts$SyntaxException" "java/lang/Throwable" "backtrace" "Ljava/lang/Object;") ∈ lw_all := lw_g (lw_at lw_m8 129 rfl) rfl
theorem q1887 : (Jvm.Cond.instanceMethod ({ cls := "FlockHuts$SyntaxException", name := "<init>", desc := "(I)V" } : Jvm.MethodName)) ∈ lw_all := lw_g (lw_at lw_m8 131 rfl) rfl
theorem q1888 : (Jvm.Cond.code ({ cls := "FlockHuts$SyntaxException", name := "<init>", desc := "(I)V" } : Jvm.MethodName) prog_12_method_1_code (2 : Nat) (Option.none : Option Jvm.ClassFile.FieldType)) ∈ lw_all := lw_g (lw_at lw_m8 132 rfl) rfl
theorem q1889 : (Jvm.Cond.methodLink "FlockHuts$SyntaxException" (1 : Nat) ({ cls := "java/lang/Exception", name := "<init>", desc := "(Ljava/lang/String;Ljava/lang/Throwable;ZZ)V" } : Jvm.MethodName)) ∈ lw_all := lw_g (lw_at lw_m8 133 rfl) rfl
theorem q1890 : (Jvm.Cond.fieldLink "FlockHuts$SyntaxException" (7 : Nat) "FlockHuts$SyntaxException" "position" "I") ∈ lw_all := lw_g (lw_at lw_m8 134 rfl) rfl
theorem q1892 : (Jvm.Cond.laysFinal "FlockHuts$SyntaxException" "FlockHuts$SyntaxException" "position" "I") ∈ lw_all := lw_g (lw_at lw_m8 136 rfl) rfl
theorem q1893 : (Jvm.Cond.soleField "FlockHuts$SyntaxException" "position") ∈ lw_all := lw_g (lw_at lw_m8 137 rfl) rfl
theorem q1894 : (Jvm.Cond.lays "FlockHuts$SyntaxException" "java/lang/Throwable" "depth" "I") ∈ lw_all := lw_g (lw_at lw_m8 138 rfl) rfl
theorem q1895 : (Jvm.Cond.superclass "FlockHuts$SyntaxException" "java/lang/Exception") ∈ lw_all := lw_g (lw_at lw_m8 139 rfl) rfl
theorem q2461 : (Jvm.Cond.castable "FlockHuts$SyntaxException" "java/lang/Object") ∈ lw_tbl := lw_at lw_m10 225 rfl
theorem in_X13 : ∀ w ∈ wsX130, w ∈ lw_all := lw_in wsX130 [1881, 1882, 1883, 1884, 1885, 1894, 1892] (by decide +kernel) (by decide +kernel)

