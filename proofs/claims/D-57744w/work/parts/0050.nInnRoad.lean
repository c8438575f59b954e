/-! InnRoad -/
set_option maxRecDepth 100000
def RX1 : String := "InnRoad"
def TX1 : u_T := fun k => match k with
  | 0 => ("InnRoad", "buffer", "[B", true)
  | 1 => ("InnRoad", "bufferLength", "I", false)
  | 2 => ("InnRoad", "road", "LInnRoad$Road;", false)
  | 3 => ("InnRoad", "saved", "LInnRoad$Road;", false)
  | 4 => ("InnRoad", "history", "LInnRoad$History;", true)
  | _ => ("InnRoad", "text", "Ljava/lang/String;", false)
def tyX1 : Nat → FieldType := fun k => match k with
  | 0 => .array .byte
  | 1 => .int
  | 2 => .object "InnRoad$Road"
  | 3 => .object "InnRoad$Road"
  | 4 => .object "InnRoad$History"
  | _ => .object "java/lang/String"
abbrev wsX10 : List Cond := u_ws RX1 TX1 6
theorem nmX1 : ∀ a, a < 6 → ∀ b, b < 6 → a ≠ b → (TX1 a).2.1 ≠ (TX1 b).2.1 := by decide +kernel
theorem tyX1_ok : ∀ k, k < 6 → parseFieldDescriptor (TX1 k).2.2.1 = some (tyX1 k) := by decide +kernel
abbrev cX1_init : ByteArray := prog_1_method_3_code
def yX1_init : MethodName := ⟨RX1, "<init>", "()V"⟩
def dkwX1_init_5 : List UInt8 := [167, 0, 4, 3, 183, 0, 49, 83, 132, 2, 1, 167, 255, 208, 42, 180, 0, 20, 182, 0, 52, 61, 177]
abbrev dktX1_init_5 : List UInt8 := dkwX1_init_5 ++ []
def dkwX1_init_4 : List UInt8 := [28, 187, 0, 47, 89, 43, 28, 46, 28, 6, 159, 0, 7, 4, 167, 0, 4, 3, 28, 4, 160, 0, 7, 6]
abbrev dktX1_init_4 : List UInt8 := dkwX1_init_4 ++ dktX1_init_5
def dkwX1_init_3 : List UInt8 := [42, 180, 0, 20, 16, 40, 181, 0, 39, 3, 61, 28, 43, 190, 162, 0, 48, 42, 180, 0, 20, 180, 0, 43]
abbrev dktX1_init_3 : List UInt8 := dkwX1_init_3 ++ dktX1_init_4
def dkwX1_init_2 : List UInt8 := [16, 10, 79, 89, 4, 16, 75, 79, 89, 5, 16, 30, 79, 89, 6, 16, 55, 79, 89, 7, 16, 90, 79, 76]
abbrev dktX1_init_2 : List UInt8 := dkwX1_init_2 ++ dktX1_init_3
def dkwX1_init_1 : List UInt8 := [42, 187, 0, 24, 89, 16, 8, 183, 0, 26, 181, 0, 29, 42, 18, 33, 181, 0, 35, 8, 188, 10, 89, 3]
abbrev dktX1_init_1 : List UInt8 := dkwX1_init_1 ++ dktX1_init_2
def dkwX1_init_0 : List UInt8 := [42, 183, 0, 7, 42, 17, 1, 244, 188, 8, 181, 0, 13, 42, 187, 0, 17, 89, 183, 0, 19, 181, 0, 20]
abbrev dktX1_init_0 : List UInt8 := dkwX1_init_0 ++ dktX1_init_1
theorem dksX1_init_0 : cX1_init.data.toList.drop 0 = dktX1_init_0 := by decide +kernel
theorem dksX1_init_1 : cX1_init.data.toList.drop 24 = dktX1_init_1 := dk_seg dksX1_init_0 24 rfl rfl
theorem dksX1_init_2 : cX1_init.data.toList.drop 48 = dktX1_init_2 := dk_seg dksX1_init_1 24 rfl rfl
theorem dksX1_init_3 : cX1_init.data.toList.drop 72 = dktX1_init_3 := dk_seg dksX1_init_2 24 rfl rfl
theorem dksX1_init_4 : cX1_init.data.toList.drop 96 = dktX1_init_4 := dk_seg dksX1_init_3 24 rfl rfl
theorem dksX1_init_5 : cX1_init.data.toList.drop 120 = dktX1_init_5 := dk_seg dksX1_init_4 24 rfl rfl
theorem dX1_init_0 : decode cX1_init 0 = .ok (.aload_n 0, 1) := dk_42 (dk_at dksX1_init_0 0 rfl rfl)
theorem dX1_init_1 : decode cX1_init 1 = .ok (.invokespecial 7, 3) := dk_183 0 7 (dk_at dksX1_init_0 1 rfl rfl)
theorem dX1_init_4 : decode cX1_init 4 = .ok (.aload_n 0, 1) := dk_42 (dk_at dksX1_init_0 4 rfl rfl)
theorem dX1_init_5 : decode cX1_init 5 = .ok (.sipush 500, 3) := dk_17 1 244 (dk_at dksX1_init_0 5 rfl rfl)
theorem dX1_init_8 : decode cX1_init 8 = .ok (.newarray .byte, 2) := dk_188_8 (dk_at dksX1_init_0 8 rfl rfl)
theorem dX1_init_10 : decode cX1_init 10 = .ok (.putfield 13, 3) := dk_181 0 13 (dk_at dksX1_init_0 10 rfl rfl)
theorem dX1_init_13 : decode cX1_init 13 = .ok (.aload_n 0, 1) := dk_42 (dk_at dksX1_init_0 13 rfl rfl)
theorem dX1_init_14 : decode cX1_init 14 = .ok (.new 17, 3) := dk_187 0 17 (dk_at dksX1_init_0 14 rfl rfl)
theorem dX1_init_17 : decode cX1_init 17 = .ok (.dup, 1) := dk_89 (dk_at dksX1_init_0 17 rfl rfl)
theorem dX1_init_18 : decode cX1_init 18 = .ok (.invokespecial 19, 3) := dk_183 0 19 (dk_at dksX1_init_0 18 rfl rfl)
theorem dX1_init_21 : decode cX1_init 21 = .ok (.putfield 20, 3) := dk_181 0 20 (dk_at dksX1_init_0 21 rfl rfl)
theorem dX1_init_24 : decode cX1_init 24 = .ok (.aload_n 0, 1) := dk_42 (dk_at dksX1_init_1 0 rfl rfl)
theorem dX1_init_25 : decode cX1_init 25 = .ok (.new 24, 3) := dk_187 0 24 (dk_at dksX1_init_1 1 rfl rfl)
theorem dX1_init_28 : decode cX1_init 28 = .ok (.dup, 1) := dk_89 (dk_at dksX1_init_1 4 rfl rfl)
theorem dX1_init_29 : decode cX1_init 29 = .ok (.bipush 8, 2) := dk_16 8 (dk_at dksX1_init_1 5 rfl rfl)
theorem dX1_init_31 : decode cX1_init 31 = .ok (.invokespecial 26, 3) := dk_183 0 26 (dk_at dksX1_init_1 7 rfl rfl)
theorem dX1_init_34 : decode cX1_init 34 = .ok (.putfield 29, 3) := dk_181 0 29 (dk_at dksX1_init_1 10 rfl rfl)
theorem dX1_init_37 : decode cX1_init 37 = .ok (.aload_n 0, 1) := dk_42 (dk_at dksX1_init_1 13 rfl rfl)
theorem dX1_init_38 : decode cX1_init 38 = .ok (.ldc 33, 2) := dk_18 33 (dk_at dksX1_init_1 14 rfl rfl)
theorem dX1_init_40 : decode cX1_init 40 = .ok (.putfield 35, 3) := dk_181 0 35 (dk_at dksX1_init_1 16 rfl rfl)
theorem dX1_init_43 : decode cX1_init 43 = .ok (.iconst 5, 1) := dk_8 (dk_at dksX1_init_1 19 rfl rfl)
theorem dX1_init_44 : decode cX1_init 44 = .ok (.newarray .int, 2) := dk_188_10 (dk_at dksX1_init_1 20 rfl rfl)
theorem dX1_init_46 : decode cX1_init 46 = .ok (.dup, 1) := dk_89 (dk_at dksX1_init_1 22 rfl rfl)
theorem dX1_init_47 : decode cX1_init 47 = .ok (.iconst 0, 1) := dk_3 (dk_at dksX1_init_1 23 rfl rfl)
theorem dX1_init_48 : decode cX1_init 48 = .ok (.bipush 10, 2) := dk_16 10 (dk_at dksX1_init_2 0 rfl rfl)
theorem dX1_init_50 : decode cX1_init 50 = .ok (.iastore, 1) := dk_79 (dk_at dksX1_init_2 2 rfl rfl)
theorem dX1_init_51 : decode cX1_init 51 = .ok (.dup, 1) := dk_89 (dk_at dksX1_init_2 3 rfl rfl)
theorem dX1_init_52 : decode cX1_init 52 = .ok (.iconst 1, 1) := dk_4 (dk_at dksX1_init_2 4 rfl rfl)
theorem dX1_init_53 : decode cX1_init 53 = .ok (.bipush 75, 2) := dk_16 75 (dk_at dksX1_init_2 5 rfl rfl)
theorem dX1_init_55 : decode cX1_init 55 = .ok (.iastore, 1) := dk_79 (dk_at dksX1_init_2 7 rfl rfl)
theorem dX1_init_56 : decode cX1_init 56 = .ok (.dup, 1) := dk_89 (dk_at dksX1_init_2 8 rfl rfl)
theorem dX1_init_57 : decode cX1_init 57 = .ok (.iconst 2, 1) := dk_5 (dk_at dksX1_init_2 9 rfl rfl)
theorem dX1_init_58 : decode cX1_init 58 = .ok (.bipush 30, 2) := dk_16 30 (dk_at dksX1_init_2 10 rfl rfl)
theorem dX1_init_60 : decode cX1_init 60 = .ok (.iastore, 1) := dk_79 (dk_at dksX1_init_2 12 rfl rfl)
theorem dX1_init_61 : decode cX1_init 61 = .ok (.dup, 1) := dk_89 (dk_at dksX1_init_2 13 rfl rfl)
theorem dX1_init_62 : decode cX1_init 62 = .ok (.iconst 3, 1) := dk_6 (dk_at dksX1_init_2 14 rfl rfl)
theorem dX1_init_63 : decode cX1_init 63 = .ok (.bipush 55, 2) := dk_16 55 (dk_at dksX1_init_2 15 rfl rfl)
theorem dX1_init_65 : decode cX1_init 65 = .ok (.iastore, 1) := dk_79 (dk_at dksX1_init_2 17 rfl rfl)
theorem dX1_init_66 : decode cX1_init 66 = .ok (.dup, 1) := dk_89 (dk_at dksX1_init_2 18 rfl rfl)
theorem dX1_init_67 : decode cX1_init 67 = .ok (.iconst 4, 1) := dk_7 (dk_at dksX1_init_2 19 rfl rfl)
theorem dX1_init_68 : decode cX1_init 68 = .ok (.bipush 90, 2) := dk_16 90 (dk_at dksX1_init_2 20 rfl rfl)
theorem dX1_init_70 : decode cX1_init 70 = .ok (.iastore, 1) := dk_79 (dk_at dksX1_init_2 22 rfl rfl)
theorem dX1_init_71 : decode cX1_init 71 = .ok (.astore_n 1, 1) := dk_76 (dk_at dksX1_init_2 23 rfl rfl)
theorem dX1_init_72 : decode cX1_init 72 = .ok (.aload_n 0, 1) := dk_42 (dk_at dksX1_init_3 0 rfl rfl)
theorem dX1_init_73 : decode cX1_init 73 = .ok (.getfield 20, 3) := dk_180 0 20 (dk_at dksX1_init_3 1 rfl rfl)
theorem dX1_init_76 : decode cX1_init 76 = .ok (.bipush 40, 2) := dk_16 40 (dk_at dksX1_init_3 4 rfl rfl)
theorem dX1_init_78 : decode cX1_init 78 = .ok (.putfield 39, 3) := dk_181 0 39 (dk_at dksX1_init_3 6 rfl rfl)
theorem dX1_init_81 : decode cX1_init 81 = .ok (.iconst 0, 1) := dk_3 (dk_at dksX1_init_3 9 rfl rfl)
theorem dX1_init_82 : decode cX1_init 82 = .ok (.istore_n 2, 1) := dk_61 (dk_at dksX1_init_3 10 rfl rfl)
theorem dX1_init_83 : decode cX1_init 83 = .ok (.iload_n 2, 1) := dk_28 (dk_at dksX1_init_3 11 rfl rfl)
theorem dX1_init_84 : decode cX1_init 84 = .ok (.aload_n 1, 1) := dk_43 (dk_at dksX1_init_3 12 rfl rfl)
theorem dX1_init_85 : decode cX1_init 85 = .ok (.arraylength, 1) := dk_190 (dk_at dksX1_init_3 13 rfl rfl)
theorem dX1_init_86 : decode cX1_init 86 = .ok (.if_icmp .ge 48, 3) := dk_162 0 48 (dk_at dksX1_init_3 14 rfl rfl)
theorem dX1_init_89 : decode cX1_init 89 = .ok (.aload_n 0, 1) := dk_42 (dk_at dksX1_init_3 17 rfl rfl)
theorem dX1_init_90 : decode cX1_init 90 = .ok (.getfield 20, 3) := dk_180 0 20 (dk_at dksX1_init_3 18 rfl rfl)
theorem dX1_init_93 : decode cX1_init 93 = .ok (.getfield 43, 3) := dk_180 0 43 (dk_at dksX1_init_3 21 rfl rfl)
theorem dX1_init_96 : decode cX1_init 96 = .ok (.iload_n 2, 1) := dk_28 (dk_at dksX1_init_4 0 rfl rfl)
theorem dX1_init_97 : decode cX1_init 97 = .ok (.new 47, 3) := dk_187 0 47 (dk_at dksX1_init_4 1 rfl rfl)
theorem dX1_init_100 : decode cX1_init 100 = .ok (.dup, 1) := dk_89 (dk_at dksX1_init_4 4 rfl rfl)
theorem dX1_init_101 : decode cX1_init 101 = .ok (.aload_n 1, 1) := dk_43 (dk_at dksX1_init_4 5 rfl rfl)
theorem dX1_init_102 : decode cX1_init 102 = .ok (.iload_n 2, 1) := dk_28 (dk_at dksX1_init_4 6 rfl rfl)
theorem dX1_init_103 : decode cX1_init 103 = .ok (.iaload, 1) := dk_46 (dk_at dksX1_init_4 7 rfl rfl)
theorem dX1_init_104 : decode cX1_init 104 = .ok (.iload_n 2, 1) := dk_28 (dk_at dksX1_init_4 8 rfl rfl)
theorem dX1_init_105 : decode cX1_init 105 = .ok (.iconst 3, 1) := dk_6 (dk_at dksX1_init_4 9 rfl rfl)
theorem dX1_init_106 : decode cX1_init 106 = .ok (.if_icmp .eq 7, 3) := dk_159 0 7 (dk_at dksX1_init_4 10 rfl rfl)
theorem dX1_init_109 : decode cX1_init 109 = .ok (.iconst 1, 1) := dk_4 (dk_at dksX1_init_4 13 rfl rfl)
theorem dX1_init_110 : decode cX1_init 110 = .ok (.goto 4, 3) := dk_167 0 4 (dk_at dksX1_init_4 14 rfl rfl)
theorem dX1_init_113 : decode cX1_init 113 = .ok (.iconst 0, 1) := dk_3 (dk_at dksX1_init_4 17 rfl rfl)
theorem dX1_init_114 : decode cX1_init 114 = .ok (.iload_n 2, 1) := dk_28 (dk_at dksX1_init_4 18 rfl rfl)
theorem dX1_init_115 : decode cX1_init 115 = .ok (.iconst 1, 1) := dk_4 (dk_at dksX1_init_4 19 rfl rfl)
theorem dX1_init_116 : decode cX1_init 116 = .ok (.if_icmp .ne 7, 3) := dk_160 0 7 (dk_at dksX1_init_4 20 rfl rfl)
theorem dX1_init_119 : decode cX1_init 119 = .ok (.iconst 3, 1) := dk_6 (dk_at dksX1_init_4 23 rfl rfl)
theorem dX1_init_120 : decode cX1_init 120 = .ok (.goto 4, 3) := dk_167 0 4 (dk_at dksX1_init_5 0 rfl rfl)
theorem dX1_init_123 : decode cX1_init 123 = .ok (.iconst 0, 1) := dk_3 (dk_at dksX1_init_5 3 rfl rfl)
theorem dX1_init_124 : decode cX1_init 124 = .ok (.invokespecial 49, 3) := dk_183 0 49 (dk_at dksX1_init_5 4 rfl rfl)
theorem dX1_init_127 : decode cX1_init 127 = .ok (.aastore, 1) := dk_83 (dk_at dksX1_init_5 7 rfl rfl)
theorem dX1_init_128 : decode cX1_init 128 = .ok (.iinc 2 1, 3) := dk_132 2 1 (dk_at dksX1_init_5 8 rfl rfl)
theorem dX1_init_131 : decode cX1_init 131 = .ok (.goto (-48), 3) := dk_167 255 208 (dk_at dksX1_init_5 11 rfl rfl)
theorem dX1_init_134 : decode cX1_init 134 = .ok (.aload_n 0, 1) := dk_42 (dk_at dksX1_init_5 14 rfl rfl)
theorem dX1_init_135 : decode cX1_init 135 = .ok (.getfield 20, 3) := dk_180 0 20 (dk_at dksX1_init_5 15 rfl rfl)
theorem dX1_init_138 : decode cX1_init 138 = .ok (.invokevirtual 52, 3) := dk_182 0 52 (dk_at dksX1_init_5 18 rfl rfl)
theorem dX1_init_141 : decode cX1_init 141 = .ok (.istore_n 2, 1) := dk_61 (dk_at dksX1_init_5 21 rfl rfl)
theorem dX1_init_142 : decode cX1_init 142 = .ok (.return_, 1) := dk_177 (dk_at dksX1_init_5 22 rfl rfl)
abbrev cX1_errorPosition : ByteArray := prog_1_method_14_code
def yX1_errorPosition : MethodName := ⟨RX1, "errorPosition", "()I"⟩
def dkwX1_errorPosition_1 : List UInt8 := [180, 0, 112, 172]
abbrev dktX1_errorPosition_1 : List UInt8 := dkwX1_errorPosition_1 ++ []
def dkwX1_errorPosition_0 : List UInt8 := [187, 0, 102, 89, 42, 180, 0, 13, 42, 180, 0, 93, 183, 0, 104, 182, 0, 107, 76, 2, 172, 76, 43]
abbrev dktX1_errorPosition_0 : List UInt8 := dkwX1_errorPosition_0 ++ dktX1_errorPosition_1
theorem dksX1_errorPosition_0 : cX1_errorPosition.data.toList.drop 0 = dktX1_errorPosition_0 := by decide +kernel
theorem dksX1_errorPosition_1 : cX1_errorPosition.data.toList.drop 23 = dktX1_errorPosition_1 := dk_seg dksX1_errorPosition_0 23 rfl rfl
theorem dX1_errorPosition_0 : decode cX1_errorPosition 0 = .ok (.new 102, 3) := dk_187 0 102 (dk_at dksX1_errorPosition_0 0 rfl rfl)
theorem dX1_errorPosition_3 : decode cX1_errorPosition 3 = .ok (.dup, 1) := dk_89 (dk_at dksX1_errorPosition_0 3 rfl rfl)
theorem dX1_errorPosition_4 : decode cX1_errorPosition 4 = .ok (.aload_n 0, 1) := dk_42 (dk_at dksX1_errorPosition_0 4 rfl rfl)
theorem dX1_errorPosition_5 : decode cX1_errorPosition 5 = .ok (.getfield 13, 3) := dk_180 0 13 (dk_at dksX1_errorPosition_0 5 rfl rfl)
theorem dX1_errorPosition_8 : decode cX1_errorPosition 8 = .ok (.aload_n 0, 1) := dk_42 (dk_at dksX1_errorPosition_0 8 rfl rfl)
theorem dX1_errorPosition_9 : decode cX1_errorPosition 9 = .ok (.getfield 93, 3) := dk_180 0 93 (dk_at dksX1_errorPosition_0 9 rfl rfl)
theorem dX1_errorPosition_12 : decode cX1_errorPosition 12 = .ok (.invokespecial 104, 3) := dk_183 0 104 (dk_at dksX1_errorPosition_0 12 rfl rfl)
theorem dX1_errorPosition_15 : decode cX1_errorPosition 15 = .ok (.invokevirtual 107, 3) := dk_182 0 107 (dk_at dksX1_errorPosition_0 15 rfl rfl)
theorem dX1_errorPosition_18 : decode cX1_errorPosition 18 = .ok (.astore_n 1, 1) := dk_76 (dk_at dksX1_errorPosition_0 18 rfl rfl)
theorem dX1_errorPosition_19 : decode cX1_errorPosition 19 = .ok (.iconst (-1), 1) := dk_2 (dk_at dksX1_errorPosition_0 19 rfl rfl)
theorem dX1_errorPosition_20 : decode cX1_errorPosition 20 = .ok (.ireturn, 1) := dk_172 (dk_at dksX1_errorPosition_0 20 rfl rfl)
theorem dX1_errorPosition_21 : decode cX1_errorPosition 21 = .ok (.astore_n 1, 1) := dk_76 (dk_at dksX1_errorPosition_0 21 rfl rfl)
theorem dX1_errorPosition_22 : decode cX1_errorPosition 22 = .ok (.aload_n 1, 1) := dk_43 (dk_at dksX1_errorPosition_0 22 rfl rfl)
theorem dX1_errorPosition_23 : decode cX1_errorPosition 23 = .ok (.getfield 112, 3) := dk_180 0 112 (dk_at dksX1_errorPosition_1 0 rfl rfl)
theorem dX1_errorPosition_26 : decode cX1_errorPosition 26 = .ok (.ireturn, 1) := dk_172 (dk_at dksX1_errorPosition_1 3 rfl rfl)
abbrev cX1_isBetween : ByteArray := prog_1_method_1_code
def yX1_isBetween : MethodName := ⟨RX1, "isBetween", "(III)Z"⟩
def dkwX1_isBetween_0 : List UInt8 := [26, 27, 161, 0, 12, 26, 28, 163, 0, 7, 4, 167, 0, 4, 3, 172]
abbrev dktX1_isBetween_0 : List UInt8 := dkwX1_isBetween_0 ++ []
theorem dksX1_isBetween_0 : cX1_isBetween.data.toList.drop 0 = dktX1_isBetween_0 := by decide +kernel
theorem dX1_isBetween_0 : decode cX1_isBetween 0 = .ok (.iload_n 0, 1) := dk_26 (dk_at dksX1_isBetween_0 0 rfl rfl)
theorem dX1_isBetween_1 : decode cX1_isBetween 1 = .ok (.iload_n 1, 1) := dk_27 (dk_at dksX1_isBetween_0 1 rfl rfl)
theorem dX1_isBetween_2 : decode cX1_isBetween 2 = .ok (.if_icmp .lt 12, 3) := dk_161 0 12 (dk_at dksX1_isBetween_0 2 rfl rfl)
theorem dX1_isBetween_5 : decode cX1_isBetween 5 = .ok (.iload_n 0, 1) := dk_26 (dk_at dksX1_isBetween_0 5 rfl rfl)
theorem dX1_isBetween_6 : decode cX1_isBetween 6 = .ok (.iload_n 2, 1) := dk_28 (dk_at dksX1_isBetween_0 6 rfl rfl)
theorem dX1_isBetween_7 : decode cX1_isBetween 7 = .ok (.if_icmp .gt 7, 3) := dk_163 0 7 (dk_at dksX1_isBetween_0 7 rfl rfl)
theorem dX1_isBetween_10 : decode cX1_isBetween 10 = .ok (.iconst 1, 1) := dk_4 (dk_at dksX1_isBetween_0 10 rfl rfl)
theorem dX1_isBetween_11 : decode cX1_isBetween 11 = .ok (.goto 4, 3) := dk_167 0 4 (dk_at dksX1_isBetween_0 11 rfl rfl)
theorem dX1_isBetween_14 : decode cX1_isBetween 14 = .ok (.iconst 0, 1) := dk_3 (dk_at dksX1_isBetween_0 14 rfl rfl)
theorem dX1_isBetween_15 : decode cX1_isBetween 15 = .ok (.ireturn, 1) := dk_172 (dk_at dksX1_isBetween_0 15 rfl rfl)
abbrev cX1_thaw : ByteArray := prog_1_method_22_code
def yX1_thaw : MethodName := ⟨RX1, "thaw", "()I"⟩
def dkwX1_thaw_2 : List UInt8 := [132, 3, 1, 167, 255, 223, 44, 182, 0, 146, 27, 100, 172]
abbrev dktX1_thaw_2 : List UInt8 := dkwX1_thaw_2 ++ []
def dkwX1_thaw_1 : List UInt8 := [182, 0, 65, 153, 0, 19, 44, 180, 0, 43, 29, 44, 180, 0, 43, 29, 50, 4, 182, 0, 134, 83]
abbrev dktX1_thaw_1 : List UInt8 := dkwX1_thaw_1 ++ dktX1_thaw_2
def dkwX1_thaw_0 : List UInt8 := [42, 180, 0, 20, 182, 0, 146, 60, 42, 182, 0, 128, 77, 3, 62, 29, 16, 12, 162, 0, 33, 44, 29]
abbrev dktX1_thaw_0 : List UInt8 := dkwX1_thaw_0 ++ dktX1_thaw_1
theorem dksX1_thaw_0 : cX1_thaw.data.toList.drop 0 = dktX1_thaw_0 := by decide +kernel
theorem dksX1_thaw_1 : cX1_thaw.data.toList.drop 23 = dktX1_thaw_1 := dk_seg dksX1_thaw_0 23 rfl rfl
theorem dksX1_thaw_2 : cX1_thaw.data.toList.drop 45 = dktX1_thaw_2 := dk_seg dksX1_thaw_1 22 rfl rfl
theorem dX1_thaw_0 : decode cX1_thaw 0 = .ok (.aload_n 0, 1) := dk_42 (dk_at dksX1_thaw_0 0 rfl rfl)
theorem dX1_thaw_1 : decode cX1_thaw 1 = .ok (.getfield 20, 3) := dk_180 0 20 (dk_at dksX1_thaw_0 1 rfl rfl)
theorem dX1_thaw_4 : decode cX1_thaw 4 = .ok (.invokevirtual 146, 3) := dk_182 0 146 (dk_at dksX1_thaw_0 4 rfl rfl)
theorem dX1_thaw_7 : decode cX1_thaw 7 = .ok (.istore_n 1, 1) := dk_60 (dk_at dksX1_thaw_0 7 rfl rfl)
theorem dX1_thaw_8 : decode cX1_thaw 8 = .ok (.aload_n 0, 1) := dk_42 (dk_at dksX1_thaw_0 8 rfl rfl)
theorem dX1_thaw_9 : decode cX1_thaw 9 = .ok (.invokevirtual 128, 3) := dk_182 0 128 (dk_at dksX1_thaw_0 9 rfl rfl)
theorem dX1_thaw_12 : decode cX1_thaw 12 = .ok (.astore_n 2, 1) := dk_77 (dk_at dksX1_thaw_0 12 rfl rfl)
theorem dX1_thaw_13 : decode cX1_thaw 13 = .ok (.iconst 0, 1) := dk_3 (dk_at dksX1_thaw_0 13 rfl rfl)
theorem dX1_thaw_14 : decode cX1_thaw 14 = .ok (.istore_n 3, 1) := dk_62 (dk_at dksX1_thaw_0 14 rfl rfl)
theorem dX1_thaw_15 : decode cX1_thaw 15 = .ok (.iload_n 3, 1) := dk_29 (dk_at dksX1_thaw_0 15 rfl rfl)
theorem dX1_thaw_16 : decode cX1_thaw 16 = .ok (.bipush 12, 2) := dk_16 12 (dk_at dksX1_thaw_0 16 rfl rfl)
theorem dX1_thaw_18 : decode cX1_thaw 18 = .ok (.if_icmp .ge 33, 3) := dk_162 0 33 (dk_at dksX1_thaw_0 18 rfl rfl)
theorem dX1_thaw_21 : decode cX1_thaw 21 = .ok (.aload_n 2, 1) := dk_44 (dk_at dksX1_thaw_0 21 rfl rfl)
theorem dX1_thaw_22 : decode cX1_thaw 22 = .ok (.iload_n 3, 1) := dk_29 (dk_at dksX1_thaw_0 22 rfl rfl)
theorem dX1_thaw_23 : decode cX1_thaw 23 = .ok (.invokevirtual 65, 3) := dk_182 0 65 (dk_at dksX1_thaw_1 0 rfl rfl)
theorem dX1_thaw_26 : decode cX1_thaw 26 = .ok (.ifCond .eq 19, 3) := dk_153 0 19 (dk_at dksX1_thaw_1 3 rfl rfl)
theorem dX1_thaw_29 : decode cX1_thaw 29 = .ok (.aload_n 2, 1) := dk_44 (dk_at dksX1_thaw_1 6 rfl rfl)
theorem dX1_thaw_30 : decode cX1_thaw 30 = .ok (.getfield 43, 3) := dk_180 0 43 (dk_at dksX1_thaw_1 7 rfl rfl)
theorem dX1_thaw_33 : decode cX1_thaw 33 = .ok (.iload_n 3, 1) := dk_29 (dk_at dksX1_thaw_1 10 rfl rfl)
theorem dX1_thaw_34 : decode cX1_thaw 34 = .ok (.aload_n 2, 1) := dk_44 (dk_at dksX1_thaw_1 11 rfl rfl)
theorem dX1_thaw_35 : decode cX1_thaw 35 = .ok (.getfield 43, 3) := dk_180 0 43 (dk_at dksX1_thaw_1 12 rfl rfl)
theorem dX1_thaw_38 : decode cX1_thaw 38 = .ok (.iload_n 3, 1) := dk_29 (dk_at dksX1_thaw_1 15 rfl rfl)
theorem dX1_thaw_39 : decode cX1_thaw 39 = .ok (.aaload, 1) := dk_50 (dk_at dksX1_thaw_1 16 rfl rfl)
theorem dX1_thaw_40 : decode cX1_thaw 40 = .ok (.iconst 1, 1) := dk_4 (dk_at dksX1_thaw_1 17 rfl rfl)
theorem dX1_thaw_41 : decode cX1_thaw 41 = .ok (.invokevirtual 134, 3) := dk_182 0 134 (dk_at dksX1_thaw_1 18 rfl rfl)
theorem dX1_thaw_44 : decode cX1_thaw 44 = .ok (.aastore, 1) := dk_83 (dk_at dksX1_thaw_1 21 rfl rfl)
theorem dX1_thaw_45 : decode cX1_thaw 45 = .ok (.iinc 3 1, 3) := dk_132 3 1 (dk_at dksX1_thaw_2 0 rfl rfl)
theorem dX1_thaw_48 : decode cX1_thaw 48 = .ok (.goto (-33), 3) := dk_167 255 223 (dk_at dksX1_thaw_2 3 rfl rfl)
theorem dX1_thaw_51 : decode cX1_thaw 51 = .ok (.aload_n 2, 1) := dk_44 (dk_at dksX1_thaw_2 6 rfl rfl)
theorem dX1_thaw_52 : decode cX1_thaw 52 = .ok (.invokevirtual 146, 3) := dk_182 0 146 (dk_at dksX1_thaw_2 7 rfl rfl)
theorem dX1_thaw_55 : decode cX1_thaw 55 = .ok (.iload_n 1, 1) := dk_27 (dk_at dksX1_thaw_2 10 rfl rfl)
theorem dX1_thaw_56 : decode cX1_thaw 56 = .ok (.isub, 1) := dk_100 (dk_at dksX1_thaw_2 11 rfl rfl)
theorem dX1_thaw_57 : decode cX1_thaw 57 = .ok (.ireturn, 1) := dk_172 (dk_at dksX1_thaw_2 12 rfl rfl)
abbrev cX1_change : ByteArray := prog_1_method_10_code
def yX1_change : MethodName := ⟨RX1, "change", "()LInnRoad$Road;"⟩
def dkwX1_change_0 : List UInt8 := [42, 42, 180, 0, 20, 182, 0, 81, 182, 0, 85, 42, 180, 0, 20, 176]
abbrev dktX1_change_0 : List UInt8 := dkwX1_change_0 ++ []
theorem dksX1_change_0 : cX1_change.data.toList.drop 0 = dktX1_change_0 := by decide +kernel
theorem dX1_change_0 : decode cX1_change 0 = .ok (.aload_n 0, 1) := dk_42 (dk_at dksX1_change_0 0 rfl rfl)
theorem dX1_change_1 : decode cX1_change 1 = .ok (.aload_n 0, 1) := dk_42 (dk_at dksX1_change_0 1 rfl rfl)
theorem dX1_change_2 : decode cX1_change 2 = .ok (.getfield 20, 3) := dk_180 0 20 (dk_at dksX1_change_0 2 rfl rfl)
theorem dX1_change_5 : decode cX1_change 5 = .ok (.invokevirtual 81, 3) := dk_182 0 81 (dk_at dksX1_change_0 5 rfl rfl)
theorem dX1_change_8 : decode cX1_change 8 = .ok (.invokevirtual 85, 3) := dk_182 0 85 (dk_at dksX1_change_0 8 rfl rfl)
theorem dX1_change_11 : decode cX1_change 11 = .ok (.aload_n 0, 1) := dk_42 (dk_at dksX1_change_0 11 rfl rfl)
theorem dX1_change_12 : decode cX1_change 12 = .ok (.getfield 20, 3) := dk_180 0 20 (dk_at dksX1_change_0 12 rfl rfl)
theorem dX1_change_15 : decode cX1_change 15 = .ok (.areturn, 1) := dk_176 (dk_at dksX1_change_0 15 rfl rfl)
abbrev cX1_replaceBy : ByteArray := prog_1_method_9_code
def yX1_replaceBy : MethodName := ⟨RX1, "replaceBy", "(LInnRoad$Road;)V"⟩
def dkwX1_replaceBy_0 : List UInt8 := [42, 180, 0, 29, 42, 180, 0, 20, 182, 0, 77, 42, 43, 181, 0, 20, 177]
abbrev dktX1_replaceBy_0 : List UInt8 := dkwX1_replaceBy_0 ++ []
theorem dksX1_replaceBy_0 : cX1_replaceBy.data.toList.drop 0 = dktX1_replaceBy_0 := by decide +kernel
theorem dX1_replaceBy_0 : decode cX1_replaceBy 0 = .ok (.aload_n 0, 1) := dk_42 (dk_at dksX1_replaceBy_0 0 rfl rfl)
theorem dX1_replaceBy_1 : decode cX1_replaceBy 1 = .ok (.getfield 29, 3) := dk_180 0 29 (dk_at dksX1_replaceBy_0 1 rfl rfl)
theorem dX1_replaceBy_4 : decode cX1_replaceBy 4 = .ok (.aload_n 0, 1) := dk_42 (dk_at dksX1_replaceBy_0 4 rfl rfl)
theorem dX1_replaceBy_5 : decode cX1_replaceBy 5 = .ok (.getfield 20, 3) := dk_180 0 20 (dk_at dksX1_replaceBy_0 5 rfl rfl)
theorem dX1_replaceBy_8 : decode cX1_replaceBy 8 = .ok (.invokevirtual 77, 3) := dk_182 0 77 (dk_at dksX1_replaceBy_0 8 rfl rfl)
theorem dX1_replaceBy_11 : decode cX1_replaceBy 11 = .ok (.aload_n 0, 1) := dk_42 (dk_at dksX1_replaceBy_0 11 rfl rfl)
theorem dX1_replaceBy_12 : decode cX1_replaceBy 12 = .ok (.aload_n 1, 1) := dk_43 (dk_at dksX1_replaceBy_0 12 rfl rfl)
theorem dX1_replaceBy_13 : decode cX1_replaceBy 13 = .ok (.putfield 20, 3) := dk_181 0 20 (dk_at dksX1_replaceBy_0 13 rfl rfl)
theorem dX1_replaceBy_16 : decode cX1_replaceBy 16 = .ok (.return_, 1) := dk_177 (dk_at dksX1_replaceBy_0 16 rfl rfl)
abbrev cX1_rebuild : ByteArray := prog_1_method_30_code
def yX1_rebuild : MethodName := ⟨RX1, "rebuild", "()I"⟩
def dkwX1_rebuild_0 : List UInt8 := [42, 182, 0, 128, 182, 0, 52, 172]
abbrev dktX1_rebuild_0 : List UInt8 := dkwX1_rebuild_0 ++ []
theorem dksX1_rebuild_0 : cX1_rebuild.data.toList.drop 0 = dktX1_rebuild_0 := by decide +kernel
theorem dX1_rebuild_0 : decode cX1_rebuild 0 = .ok (.aload_n 0, 1) := dk_42 (dk_at dksX1_rebuild_0 0 rfl rfl)
theorem dX1_rebuild_1 : decode cX1_rebuild 1 = .ok (.invokevirtual 128, 3) := dk_182 0 128 (dk_at dksX1_rebuild_0 1 rfl rfl)
theorem dX1_rebuild_4 : decode cX1_rebuild 4 = .ok (.invokevirtual 52, 3) := dk_182 0 52 (dk_at dksX1_rebuild_0 4 rfl rfl)
theorem dX1_rebuild_7 : decode cX1_rebuild 7 = .ok (.ireturn, 1) := dk_172 (dk_at dksX1_rebuild_0 7 rfl rfl)
abbrev cX1_undoCount : ByteArray := prog_1_method_35_code
def yX1_undoCount : MethodName := ⟨RX1, "undoCount", "()I"⟩
def dkwX1_undoCount_0 : List UInt8 := [42, 180, 0, 29, 182, 0, 207, 172]
abbrev dktX1_undoCount_0 : List UInt8 := dkwX1_undoCount_0 ++ []
theorem dksX1_undoCount_0 : cX1_undoCount.data.toList.drop 0 = dktX1_undoCount_0 := by decide +kernel
theorem dX1_undoCount_0 : decode cX1_undoCount 0 = .ok (.aload_n 0, 1) := dk_42 (dk_at dksX1_undoCount_0 0 rfl rfl)
theorem dX1_undoCount_1 : decode cX1_undoCount 1 = .ok (.getfield 29, 3) := dk_180 0 29 (dk_at dksX1_undoCount_0 1 rfl rfl)
theorem dX1_undoCount_4 : decode cX1_undoCount 4 = .ok (.invokevirtual 207, 3) := dk_182 0 207 (dk_at dksX1_undoCount_0 4 rfl rfl)
theorem dX1_undoCount_7 : decode cX1_undoCount 7 = .ok (.ireturn, 1) := dk_172 (dk_at dksX1_undoCount_0 7 rfl rfl)
abbrev cX1_save : ByteArray := prog_1_method_36_code
def yX1_save : MethodName := ⟨RX1, "save", "()I"⟩
def dkwX1_save_0 : List UInt8 := [42, 42, 180, 0, 20, 182, 0, 81, 181, 0, 204, 42, 180, 0, 20, 182, 0, 115, 172]
abbrev dktX1_save_0 : List UInt8 := dkwX1_save_0 ++ []
theorem dksX1_save_0 : cX1_save.data.toList.drop 0 = dktX1_save_0 := by decide +kernel
theorem dX1_save_0 : decode cX1_save 0 = .ok (.aload_n 0, 1) := dk_42 (dk_at dksX1_save_0 0 rfl rfl)
theorem dX1_save_1 : decode cX1_save 1 = .ok (.aload_n 0, 1) := dk_42 (dk_at dksX1_save_0 1 rfl rfl)
theorem dX1_save_2 : decode cX1_save 2 = .ok (.getfield 20, 3) := dk_180 0 20 (dk_at dksX1_save_0 2 rfl rfl)
theorem dX1_save_5 : decode cX1_save 5 = .ok (.invokevirtual 81, 3) := dk_182 0 81 (dk_at dksX1_save_0 5 rfl rfl)
theorem dX1_save_8 : decode cX1_save 8 = .ok (.putfield 204, 3) := dk_181 0 204 (dk_at dksX1_save_0 8 rfl rfl)
theorem dX1_save_11 : decode cX1_save 11 = .ok (.aload_n 0, 1) := dk_42 (dk_at dksX1_save_0 11 rfl rfl)
theorem dX1_save_12 : decode cX1_save 12 = .ok (.getfield 20, 3) := dk_180 0 20 (dk_at dksX1_save_0 12 rfl rfl)
theorem dX1_save_15 : decode cX1_save 15 = .ok (.invokevirtual 115, 3) := dk_182 0 115 (dk_at dksX1_save_0 15 rfl rfl)
theorem dX1_save_18 : decode cX1_save 18 = .ok (.ireturn, 1) := dk_172 (dk_at dksX1_save_0 18 rfl rfl)
abbrev cX1_inns : ByteArray := prog_1_method_37_code
def yX1_inns : MethodName := ⟨RX1, "inns", "()I"⟩
def dkwX1_inns_0 : List UInt8 := [42, 180, 0, 20, 182, 0, 115, 172]
abbrev dktX1_inns_0 : List UInt8 := dkwX1_inns_0 ++ []
theorem dksX1_inns_0 : cX1_inns.data.toList.drop 0 = dktX1_inns_0 := by decide +kernel
theorem dX1_inns_0 : decode cX1_inns 0 = .ok (.aload_n 0, 1) := dk_42 (dk_at dksX1_inns_0 0 rfl rfl)
theorem dX1_inns_1 : decode cX1_inns 1 = .ok (.getfield 20, 3) := dk_180 0 20 (dk_at dksX1_inns_0 1 rfl rfl)
theorem dX1_inns_4 : decode cX1_inns 4 = .ok (.invokevirtual 115, 3) := dk_182 0 115 (dk_at dksX1_inns_0 4 rfl rfl)
theorem dX1_inns_7 : decode cX1_inns 7 = .ok (.ireturn, 1) := dk_172 (dk_at dksX1_inns_0 7 rfl rfl)
abbrev cX1_first : ByteArray := prog_1_method_44_code
def yX1_first : MethodName := ⟨RX1, "first", "()I"⟩
def dkwX1_first_0 : List UInt8 := [42, 180, 0, 20, 180, 0, 155, 180, 0, 168, 172]
abbrev dktX1_first_0 : List UInt8 := dkwX1_first_0 ++ []
theorem dksX1_first_0 : cX1_first.data.toList.drop 0 = dktX1_first_0 := by decide +kernel
theorem dX1_first_0 : decode cX1_first 0 = .ok (.aload_n 0, 1) := dk_42 (dk_at dksX1_first_0 0 rfl rfl)
theorem dX1_first_1 : decode cX1_first 1 = .ok (.getfield 20, 3) := dk_180 0 20 (dk_at dksX1_first_0 1 rfl rfl)
theorem dX1_first_4 : decode cX1_first 4 = .ok (.getfield 155, 3) := dk_180 0 155 (dk_at dksX1_first_0 4 rfl rfl)
theorem dX1_first_7 : decode cX1_first 7 = .ok (.getfield 168, 3) := dk_180 0 168 (dk_at dksX1_first_0 7 rfl rfl)
theorem dX1_first_10 : decode cX1_first 10 = .ok (.ireturn, 1) := dk_172 (dk_at dksX1_first_0 10 rfl rfl)
abbrev cX1_second : ByteArray := prog_1_method_45_code
def yX1_second : MethodName := ⟨RX1, "second", "()I"⟩
def dkwX1_second_0 : List UInt8 := [42, 180, 0, 20, 180, 0, 155, 180, 0, 171, 172]
abbrev dktX1_second_0 : List UInt8 := dkwX1_second_0 ++ []
theorem dksX1_second_0 : cX1_second.data.toList.drop 0 = dktX1_second_0 := by decide +kernel
theorem dX1_second_0 : decode cX1_second 0 = .ok (.aload_n 0, 1) := dk_42 (dk_at dksX1_second_0 0 rfl rfl)
theorem dX1_second_1 : decode cX1_second 1 = .ok (.getfield 20, 3) := dk_180 0 20 (dk_at dksX1_second_0 1 rfl rfl)
theorem dX1_second_4 : decode cX1_second 4 = .ok (.getfield 155, 3) := dk_180 0 155 (dk_at dksX1_second_0 4 rfl rfl)
theorem dX1_second_7 : decode cX1_second 7 = .ok (.getfield 171, 3) := dk_180 0 171 (dk_at dksX1_second_0 7 rfl rfl)
theorem dX1_second_10 : decode cX1_second 10 = .ok (.ireturn, 1) := dk_172 (dk_at dksX1_second_0 10 rfl rfl)
abbrev cX1_storedCount : ByteArray := prog_1_method_46_code
def yX1_storedCount : MethodName := ⟨RX1, "storedCount", "()I"⟩
def dkwX1_storedCount_0 : List UInt8 := [42, 180, 0, 20, 180, 0, 155, 180, 0, 174, 172]
abbrev dktX1_storedCount_0 : List UInt8 := dkwX1_storedCount_0 ++ []
theorem dksX1_storedCount_0 : cX1_storedCount.data.toList.drop 0 = dktX1_storedCount_0 := by decide +kernel
theorem dX1_storedCount_0 : decode cX1_storedCount 0 = .ok (.aload_n 0, 1) := dk_42 (dk_at dksX1_storedCount_0 0 rfl rfl)
theorem dX1_storedCount_1 : decode cX1_storedCount 1 = .ok (.getfield 20, 3) := dk_180 0 20 (dk_at dksX1_storedCount_0 1 rfl rfl)
theorem dX1_storedCount_4 : decode cX1_storedCount 4 = .ok (.getfield 155, 3) := dk_180 0 155 (dk_at dksX1_storedCount_0 4 rfl rfl)
theorem dX1_storedCount_7 : decode cX1_storedCount 7 = .ok (.getfield 174, 3) := dk_180 0 174 (dk_at dksX1_storedCount_0 7 rfl rfl)
theorem dX1_storedCount_10 : decode cX1_storedCount 10 = .ok (.ireturn, 1) := dk_172 (dk_at dksX1_storedCount_0 10 rfl rfl)
abbrev cX1_range : ByteArray := prog_1_method_47_code
def yX1_range : MethodName := ⟨RX1, "range", "()I"⟩
def dkwX1_range_0 : List UInt8 := [42, 180, 0, 20, 180, 0, 39, 172]
abbrev dktX1_range_0 : List UInt8 := dkwX1_range_0 ++ []
theorem dksX1_range_0 : cX1_range.data.toList.drop 0 = dktX1_range_0 := by decide +kernel
theorem dX1_range_0 : decode cX1_range 0 = .ok (.aload_n 0, 1) := dk_42 (dk_at dksX1_range_0 0 rfl rfl)
theorem dX1_range_1 : decode cX1_range 1 = .ok (.getfield 20, 3) := dk_180 0 20 (dk_at dksX1_range_0 1 rfl rfl)
theorem dX1_range_4 : decode cX1_range 4 = .ok (.getfield 39, 3) := dk_180 0 39 (dk_at dksX1_range_0 4 rfl rfl)
theorem dX1_range_7 : decode cX1_range 7 = .ok (.ireturn, 1) := dk_172 (dk_at dksX1_range_0 7 rfl rfl)
abbrev cX1_openInns : ByteArray := prog_1_method_48_code
def yX1_openInns : MethodName := ⟨RX1, "openInns", "()I"⟩
def dkwX1_openInns_0 : List UInt8 := [42, 180, 0, 20, 182, 0, 146, 172]
abbrev dktX1_openInns_0 : List UInt8 := dkwX1_openInns_0 ++ []
theorem dksX1_openInns_0 : cX1_openInns.data.toList.drop 0 = dktX1_openInns_0 := by decide +kernel
theorem dX1_openInns_0 : decode cX1_openInns 0 = .ok (.aload_n 0, 1) := dk_42 (dk_at dksX1_openInns_0 0 rfl rfl)
theorem dX1_openInns_1 : decode cX1_openInns 1 = .ok (.getfield 20, 3) := dk_180 0 20 (dk_at dksX1_openInns_0 1 rfl rfl)
theorem dX1_openInns_4 : decode cX1_openInns 4 = .ok (.invokevirtual 146, 3) := dk_182 0 146 (dk_at dksX1_openInns_0 4 rfl rfl)
theorem dX1_openInns_7 : decode cX1_openInns 7 = .ok (.ireturn, 1) := dk_172 (dk_at dksX1_openInns_0 7 rfl rfl)
abbrev cX1_innAtMile : ByteArray := prog_1_method_49_code
def yX1_innAtMile : MethodName := ⟨RX1, "innAtMile", "(I)I"⟩
def dkwX1_innAtMile_0 : List UInt8 := [42, 180, 0, 20, 27, 182, 0, 118, 172]
abbrev dktX1_innAtMile_0 : List UInt8 := dkwX1_innAtMile_0 ++ []
theorem dksX1_innAtMile_0 : cX1_innAtMile.data.toList.drop 0 = dktX1_innAtMile_0 := by decide +kernel
theorem dX1_innAtMile_0 : decode cX1_innAtMile 0 = .ok (.aload_n 0, 1) := dk_42 (dk_at dksX1_innAtMile_0 0 rfl rfl)
theorem dX1_innAtMile_1 : decode cX1_innAtMile 1 = .ok (.getfield 20, 3) := dk_180 0 20 (dk_at dksX1_innAtMile_0 1 rfl rfl)
theorem dX1_innAtMile_4 : decode cX1_innAtMile 4 = .ok (.iload_n 1, 1) := dk_27 (dk_at dksX1_innAtMile_0 4 rfl rfl)
theorem dX1_innAtMile_5 : decode cX1_innAtMile 5 = .ok (.invokevirtual 118, 3) := dk_182 0 118 (dk_at dksX1_innAtMile_0 5 rfl rfl)
theorem dX1_innAtMile_8 : decode cX1_innAtMile 8 = .ok (.ireturn, 1) := dk_172 (dk_at dksX1_innAtMile_0 8 rfl rfl)
abbrev cX1_totalLetters : ByteArray := prog_1_method_50_code
def yX1_totalLetters : MethodName := ⟨RX1, "totalLetters", "()I"⟩
def dkwX1_totalLetters_2 : List UInt8 := [172]
abbrev dktX1_totalLetters_2 : List UInt8 := dkwX1_totalLetters_2 ++ []
def dkwX1_totalLetters_1 : List UInt8 := [180, 0, 20, 180, 0, 43, 28, 50, 180, 0, 131, 167, 0, 4, 3, 96, 60, 132, 2, 1, 167, 255, 217, 27]
abbrev dktX1_totalLetters_1 : List UInt8 := dkwX1_totalLetters_1 ++ dktX1_totalLetters_2
def dkwX1_totalLetters_0 : List UInt8 := [3, 60, 3, 61, 28, 16, 12, 162, 0, 39, 27, 42, 180, 0, 20, 28, 182, 0, 65, 153, 0, 18, 42]
abbrev dktX1_totalLetters_0 : List UInt8 := dkwX1_totalLetters_0 ++ dktX1_totalLetters_1
theorem dksX1_totalLetters_0 : cX1_totalLetters.data.toList.drop 0 = dktX1_totalLetters_0 := by decide +kernel
theorem dksX1_totalLetters_1 : cX1_totalLetters.data.toList.drop 23 = dktX1_totalLetters_1 := dk_seg dksX1_totalLetters_0 23 rfl rfl
theorem dksX1_totalLetters_2 : cX1_totalLetters.data.toList.drop 47 = dktX1_totalLetters_2 := dk_seg dksX1_totalLetters_1 24 rfl rfl
theorem dX1_totalLetters_0 : decode cX1_totalLetters 0 = .ok (.iconst 0, 1) := dk_3 (dk_at dksX1_totalLetters_0 0 rfl rfl)
theorem dX1_totalLetters_1 : decode cX1_totalLetters 1 = .ok (.istore_n 1, 1) := dk_60 (dk_at dksX1_totalLetters_0 1 rfl rfl)
theorem dX1_totalLetters_2 : decode cX1_totalLetters 2 = .ok (.iconst 0, 1) := dk_3 (dk_at dksX1_totalLetters_0 2 rfl rfl)
theorem dX1_totalLetters_3 : decode cX1_totalLetters 3 = .ok (.istore_n 2, 1) := dk_61 (dk_at dksX1_totalLetters_0 3 rfl rfl)
theorem dX1_totalLetters_4 : decode cX1_totalLetters 4 = .ok (.iload_n 2, 1) := dk_28 (dk_at dksX1_totalLetters_0 4 rfl rfl)
theorem dX1_totalLetters_5 : decode cX1_totalLetters 5 = .ok (.bipush 12, 2) := dk_16 12 (dk_at dksX1_totalLetters_0 5 rfl rfl)
theorem dX1_totalLetters_7 : decode cX1_totalLetters 7 = .ok (.if_icmp .ge 39, 3) := dk_162 0 39 (dk_at dksX1_totalLetters_0 7 rfl rfl)
theorem dX1_totalLetters_10 : decode cX1_totalLetters 10 = .ok (.iload_n 1, 1) := dk_27 (dk_at dksX1_totalLetters_0 10 rfl rfl)
theorem dX1_totalLetters_11 : decode cX1_totalLetters 11 = .ok (.aload_n 0, 1) := dk_42 (dk_at dksX1_totalLetters_0 11 rfl rfl)
theorem dX1_totalLetters_12 : decode cX1_totalLetters 12 = .ok (.getfield 20, 3) := dk_180 0 20 (dk_at dksX1_totalLetters_0 12 rfl rfl)
theorem dX1_totalLetters_15 : decode cX1_totalLetters 15 = .ok (.iload_n 2, 1) := dk_28 (dk_at dksX1_totalLetters_0 15 rfl rfl)
theorem dX1_totalLetters_16 : decode cX1_totalLetters 16 = .ok (.invokevirtual 65, 3) := dk_182 0 65 (dk_at dksX1_totalLetters_0 16 rfl rfl)
theorem dX1_totalLetters_19 : decode cX1_totalLetters 19 = .ok (.ifCond .eq 18, 3) := dk_153 0 18 (dk_at dksX1_totalLetters_0 19 rfl rfl)
theorem dX1_totalLetters_22 : decode cX1_totalLetters 22 = .ok (.aload_n 0, 1) := dk_42 (dk_at dksX1_totalLetters_0 22 rfl rfl)
theorem dX1_totalLetters_23 : decode cX1_totalLetters 23 = .ok (.getfield 20, 3) := dk_180 0 20 (dk_at dksX1_totalLetters_1 0 rfl rfl)
theorem dX1_totalLetters_26 : decode cX1_totalLetters 26 = .ok (.getfield 43, 3) := dk_180 0 43 (dk_at dksX1_totalLetters_1 3 rfl rfl)
theorem dX1_totalLetters_29 : decode cX1_totalLetters 29 = .ok (.iload_n 2, 1) := dk_28 (dk_at dksX1_totalLetters_1 6 rfl rfl)
theorem dX1_totalLetters_30 : decode cX1_totalLetters 30 = .ok (.aaload, 1) := dk_50 (dk_at dksX1_totalLetters_1 7 rfl rfl)
theorem dX1_totalLetters_31 : decode cX1_totalLetters 31 = .ok (.getfield 131, 3) := dk_180 0 131 (dk_at dksX1_totalLetters_1 8 rfl rfl)
theorem dX1_totalLetters_34 : decode cX1_totalLetters 34 = .ok (.goto 4, 3) := dk_167 0 4 (dk_at dksX1_totalLetters_1 11 rfl rfl)
theorem dX1_totalLetters_37 : decode cX1_totalLetters 37 = .ok (.iconst 0, 1) := dk_3 (dk_at dksX1_totalLetters_1 14 rfl rfl)
theorem dX1_totalLetters_38 : decode cX1_totalLetters 38 = .ok (.iadd, 1) := dk_96 (dk_at dksX1_totalLetters_1 15 rfl rfl)
theorem dX1_totalLetters_39 : decode cX1_totalLetters 39 = .ok (.istore_n 1, 1) := dk_60 (dk_at dksX1_totalLetters_1 16 rfl rfl)
theorem dX1_totalLetters_40 : decode cX1_totalLetters 40 = .ok (.iinc 2 1, 3) := dk_132 2 1 (dk_at dksX1_totalLetters_1 17 rfl rfl)
theorem dX1_totalLetters_43 : decode cX1_totalLetters 43 = .ok (.goto (-39), 3) := dk_167 255 217 (dk_at dksX1_totalLetters_1 20 rfl rfl)
theorem dX1_totalLetters_46 : decode cX1_totalLetters 46 = .ok (.iload_n 1, 1) := dk_27 (dk_at dksX1_totalLetters_1 23 rfl rfl)
theorem dX1_totalLetters_47 : decode cX1_totalLetters 47 = .ok (.ireturn, 1) := dk_172 (dk_at dksX1_totalLetters_2 0 rfl rfl)
abbrev cX1_stagesRidden : ByteArray := prog_1_method_51_code
def yX1_stagesRidden : MethodName := ⟨RX1, "stagesRidden", "()I"⟩
def dkwX1_stagesRidden_0 : List UInt8 := [42, 180, 0, 20, 180, 0, 195, 172]
abbrev dktX1_stagesRidden_0 : List UInt8 := dkwX1_stagesRidden_0 ++ []
theorem dksX1_stagesRidden_0 : cX1_stagesRidden.data.toList.drop 0 = dktX1_stagesRidden_0 := by decide +kernel
theorem dX1_stagesRidden_0 : decode cX1_stagesRidden 0 = .ok (.aload_n 0, 1) := dk_42 (dk_at dksX1_stagesRidden_0 0 rfl rfl)
theorem dX1_stagesRidden_1 : decode cX1_stagesRidden 1 = .ok (.getfield 20, 3) := dk_180 0 20 (dk_at dksX1_stagesRidden_0 1 rfl rfl)
theorem dX1_stagesRidden_4 : decode cX1_stagesRidden 4 = .ok (.getfield 195, 3) := dk_180 0 195 (dk_at dksX1_stagesRidden_0 4 rfl rfl)
theorem dX1_stagesRidden_7 : decode cX1_stagesRidden 7 = .ok (.ireturn, 1) := dk_172 (dk_at dksX1_stagesRidden_0 7 rfl rfl)
abbrev cX1_lettersDelivered : ByteArray := prog_1_method_52_code
def yX1_lettersDelivered : MethodName := ⟨RX1, "lettersDelivered", "()I"⟩
def dkwX1_lettersDelivered_0 : List UInt8 := [42, 180, 0, 20, 180, 0, 201, 172]
abbrev dktX1_lettersDelivered_0 : List UInt8 := dkwX1_lettersDelivered_0 ++ []
theorem dksX1_lettersDelivered_0 : cX1_lettersDelivered.data.toList.drop 0 = dktX1_lettersDelivered_0 := by decide +kernel
theorem dX1_lettersDelivered_0 : decode cX1_lettersDelivered 0 = .ok (.aload_n 0, 1) := dk_42 (dk_at dksX1_lettersDelivered_0 0 rfl rfl)
theorem dX1_lettersDelivered_1 : decode cX1_lettersDelivered 1 = .ok (.getfield 20, 3) := dk_180 0 20 (dk_at dksX1_lettersDelivered_0 1 rfl rfl)
theorem dX1_lettersDelivered_4 : decode cX1_lettersDelivered 4 = .ok (.getfield 201, 3) := dk_180 0 201 (dk_at dksX1_lettersDelivered_0 4 rfl rfl)
theorem dX1_lettersDelivered_7 : decode cX1_lettersDelivered 7 = .ok (.ireturn, 1) := dk_172 (dk_at dksX1_lettersDelivered_0 7 rfl rfl)
abbrev cX1_meanGap : ByteArray := prog_1_method_53_code
def yX1_meanGap : MethodName := ⟨RX1, "meanGap", "()D"⟩
def dkwX1_meanGap_3 : List UInt8 := [100, 135, 111, 175]
abbrev dktX1_meanGap_3 : List UInt8 := dkwX1_meanGap_3 ++ []
def dkwX1_meanGap_2 : List UInt8 := [185, 0, 219, 2, 0, 192, 0, 223, 182, 0, 225, 182, 0, 228, 61, 28, 135, 43, 185, 0, 216, 1, 0, 4]
abbrev dktX1_meanGap_2 : List UInt8 := dkwX1_meanGap_2 ++ dktX1_meanGap_3
def dkwX1_meanGap_1 : List UInt8 := [43, 3, 185, 0, 219, 2, 0, 192, 0, 223, 182, 0, 225, 43, 43, 185, 0, 216, 1, 0, 4, 100]
abbrev dktX1_meanGap_1 : List UInt8 := dkwX1_meanGap_1 ++ dktX1_meanGap_2
def dkwX1_meanGap_0 : List UInt8 := [42, 180, 0, 20, 182, 0, 212, 76, 43, 185, 0, 216, 1, 0, 5, 162, 0, 5, 14, 175, 42, 180, 0, 20]
abbrev dktX1_meanGap_0 : List UInt8 := dkwX1_meanGap_0 ++ dktX1_meanGap_1
theorem dksX1_meanGap_0 : cX1_meanGap.data.toList.drop 0 = dktX1_meanGap_0 := by decide +kernel
theorem dksX1_meanGap_1 : cX1_meanGap.data.toList.drop 24 = dktX1_meanGap_1 := dk_seg dksX1_meanGap_0 24 rfl rfl
theorem dksX1_meanGap_2 : cX1_meanGap.data.toList.drop 46 = dktX1_meanGap_2 := dk_seg dksX1_meanGap_1 22 rfl rfl
theorem dksX1_meanGap_3 : cX1_meanGap.data.toList.drop 70 = dktX1_meanGap_3 := dk_seg dksX1_meanGap_2 24 rfl rfl
theorem dX1_meanGap_0 : decode cX1_meanGap 0 = .ok (.aload_n 0, 1) := dk_42 (dk_at dksX1_meanGap_0 0 rfl rfl)
theorem dX1_meanGap_1 : decode cX1_meanGap 1 = .ok (.getfield 20, 3) := dk_180 0 20 (dk_at dksX1_meanGap_0 1 rfl rfl)
theorem dX1_meanGap_4 : decode cX1_meanGap 4 = .ok (.invokevirtual 212, 3) := dk_182 0 212 (dk_at dksX1_meanGap_0 4 rfl rfl)
theorem dX1_meanGap_7 : decode cX1_meanGap 7 = .ok (.astore_n 1, 1) := dk_76 (dk_at dksX1_meanGap_0 7 rfl rfl)
theorem dX1_meanGap_8 : decode cX1_meanGap 8 = .ok (.aload_n 1, 1) := dk_43 (dk_at dksX1_meanGap_0 8 rfl rfl)
theorem dX1_meanGap_9 : decode cX1_meanGap 9 = .ok (.invokeinterface 216 1, 5) := by decide +kernel
theorem dX1_meanGap_14 : decode cX1_meanGap 14 = .ok (.iconst 2, 1) := dk_5 (dk_at dksX1_meanGap_0 14 rfl rfl)
theorem dX1_meanGap_15 : decode cX1_meanGap 15 = .ok (.if_icmp .ge 5, 3) := dk_162 0 5 (dk_at dksX1_meanGap_0 15 rfl rfl)
theorem dX1_meanGap_18 : decode cX1_meanGap 18 = .ok (.dconst 0, 1) := dk_14 (dk_at dksX1_meanGap_0 18 rfl rfl)
theorem dX1_meanGap_19 : decode cX1_meanGap 19 = .ok (.dreturn, 1) := dk_175 (dk_at dksX1_meanGap_0 19 rfl rfl)
theorem dX1_meanGap_20 : decode cX1_meanGap 20 = .ok (.aload_n 0, 1) := dk_42 (dk_at dksX1_meanGap_0 20 rfl rfl)
theorem dX1_meanGap_21 : decode cX1_meanGap 21 = .ok (.getfield 20, 3) := dk_180 0 20 (dk_at dksX1_meanGap_0 21 rfl rfl)
theorem dX1_meanGap_24 : decode cX1_meanGap 24 = .ok (.aload_n 1, 1) := dk_43 (dk_at dksX1_meanGap_1 0 rfl rfl)
theorem dX1_meanGap_25 : decode cX1_meanGap 25 = .ok (.iconst 0, 1) := dk_3 (dk_at dksX1_meanGap_1 1 rfl rfl)
theorem dX1_meanGap_26 : decode cX1_meanGap 26 = .ok (.invokeinterface 219 2, 5) := by decide +kernel
theorem dX1_meanGap_31 : decode cX1_meanGap 31 = .ok (.checkcast 223, 3) := dk_192 0 223 (dk_at dksX1_meanGap_1 7 rfl rfl)
theorem dX1_meanGap_34 : decode cX1_meanGap 34 = .ok (.invokevirtual 225, 3) := dk_182 0 225 (dk_at dksX1_meanGap_1 10 rfl rfl)
theorem dX1_meanGap_37 : decode cX1_meanGap 37 = .ok (.aload_n 1, 1) := dk_43 (dk_at dksX1_meanGap_1 13 rfl rfl)
theorem dX1_meanGap_38 : decode cX1_meanGap 38 = .ok (.aload_n 1, 1) := dk_43 (dk_at dksX1_meanGap_1 14 rfl rfl)
theorem dX1_meanGap_39 : decode cX1_meanGap 39 = .ok (.invokeinterface 216 1, 5) := by decide +kernel
theorem dX1_meanGap_44 : decode cX1_meanGap 44 = .ok (.iconst 1, 1) := dk_4 (dk_at dksX1_meanGap_1 20 rfl rfl)
theorem dX1_meanGap_45 : decode cX1_meanGap 45 = .ok (.isub, 1) := dk_100 (dk_at dksX1_meanGap_1 21 rfl rfl)
theorem dX1_meanGap_46 : decode cX1_meanGap 46 = .ok (.invokeinterface 219 2, 5) := by decide +kernel
theorem dX1_meanGap_51 : decode cX1_meanGap 51 = .ok (.checkcast 223, 3) := dk_192 0 223 (dk_at dksX1_meanGap_2 5 rfl rfl)
theorem dX1_meanGap_54 : decode cX1_meanGap 54 = .ok (.invokevirtual 225, 3) := dk_182 0 225 (dk_at dksX1_meanGap_2 8 rfl rfl)
theorem dX1_meanGap_57 : decode cX1_meanGap 57 = .ok (.invokevirtual 228, 3) := dk_182 0 228 (dk_at dksX1_meanGap_2 11 rfl rfl)
theorem dX1_meanGap_60 : decode cX1_meanGap 60 = .ok (.istore_n 2, 1) := dk_61 (dk_at dksX1_meanGap_2 14 rfl rfl)
theorem dX1_meanGap_61 : decode cX1_meanGap 61 = .ok (.iload_n 2, 1) := dk_28 (dk_at dksX1_meanGap_2 15 rfl rfl)
theorem dX1_meanGap_62 : decode cX1_meanGap 62 = .ok (.i2d, 1) := dk_135 (dk_at dksX1_meanGap_2 16 rfl rfl)
theorem dX1_meanGap_63 : decode cX1_meanGap 63 = .ok (.aload_n 1, 1) := dk_43 (dk_at dksX1_meanGap_2 17 rfl rfl)
theorem dX1_meanGap_64 : decode cX1_meanGap 64 = .ok (.invokeinterface 216 1, 5) := by decide +kernel
theorem dX1_meanGap_69 : decode cX1_meanGap 69 = .ok (.iconst 1, 1) := dk_4 (dk_at dksX1_meanGap_2 23 rfl rfl)
theorem dX1_meanGap_70 : decode cX1_meanGap 70 = .ok (.isub, 1) := dk_100 (dk_at dksX1_meanGap_3 0 rfl rfl)
theorem dX1_meanGap_71 : decode cX1_meanGap 71 = .ok (.i2d, 1) := dk_135 (dk_at dksX1_meanGap_3 1 rfl rfl)
theorem dX1_meanGap_72 : decode cX1_meanGap 72 = .ok (.ddiv, 1) := dk_111 (dk_at dksX1_meanGap_3 2 rfl rfl)
theorem dX1_meanGap_73 : decode cX1_meanGap 73 = .ok (.dreturn, 1) := dk_175 (dk_at dksX1_meanGap_3 3 rfl rfl)
abbrev cX1_openShare : ByteArray := prog_1_method_54_code
def yX1_openShare : MethodName := ⟨RX1, "openShare", "()F"⟩
def dkwX1_openShare_1 : List UInt8 := [27, 134, 110, 174]
abbrev dktX1_openShare_1 : List UInt8 := dkwX1_openShare_1 ++ []
def dkwX1_openShare_0 : List UInt8 := [42, 180, 0, 20, 182, 0, 115, 60, 27, 154, 0, 7, 11, 167, 0, 14, 42, 180, 0, 20, 182, 0, 146, 134]
abbrev dktX1_openShare_0 : List UInt8 := dkwX1_openShare_0 ++ dktX1_openShare_1
theorem dksX1_openShare_0 : cX1_openShare.data.toList.drop 0 = dktX1_openShare_0 := by decide +kernel
theorem dksX1_openShare_1 : cX1_openShare.data.toList.drop 24 = dktX1_openShare_1 := dk_seg dksX1_openShare_0 24 rfl rfl
theorem dX1_openShare_0 : decode cX1_openShare 0 = .ok (.aload_n 0, 1) := dk_42 (dk_at dksX1_openShare_0 0 rfl rfl)
theorem dX1_openShare_1 : decode cX1_openShare 1 = .ok (.getfield 20, 3) := dk_180 0 20 (dk_at dksX1_openShare_0 1 rfl rfl)
theorem dX1_openShare_4 : decode cX1_openShare 4 = .ok (.invokevirtual 115, 3) := dk_182 0 115 (dk_at dksX1_openShare_0 4 rfl rfl)
theorem dX1_openShare_7 : decode cX1_openShare 7 = .ok (.istore_n 1, 1) := dk_60 (dk_at dksX1_openShare_0 7 rfl rfl)
theorem dX1_openShare_8 : decode cX1_openShare 8 = .ok (.iload_n 1, 1) := dk_27 (dk_at dksX1_openShare_0 8 rfl rfl)
theorem dX1_openShare_9 : decode cX1_openShare 9 = .ok (.ifCond .ne 7, 3) := dk_154 0 7 (dk_at dksX1_openShare_0 9 rfl rfl)
theorem dX1_openShare_12 : decode cX1_openShare 12 = .ok (.fconst 0, 1) := dk_11 (dk_at dksX1_openShare_0 12 rfl rfl)
theorem dX1_openShare_13 : decode cX1_openShare 13 = .ok (.goto 14, 3) := dk_167 0 14 (dk_at dksX1_openShare_0 13 rfl rfl)
theorem dX1_openShare_16 : decode cX1_openShare 16 = .ok (.aload_n 0, 1) := dk_42 (dk_at dksX1_openShare_0 16 rfl rfl)
theorem dX1_openShare_17 : decode cX1_openShare 17 = .ok (.getfield 20, 3) := dk_180 0 20 (dk_at dksX1_openShare_0 17 rfl rfl)
theorem dX1_openShare_20 : decode cX1_openShare 20 = .ok (.invokevirtual 146, 3) := dk_182 0 146 (dk_at dksX1_openShare_0 20 rfl rfl)
theorem dX1_openShare_23 : decode cX1_openShare 23 = .ok (.i2f, 1) := dk_134 (dk_at dksX1_openShare_0 23 rfl rfl)
theorem dX1_openShare_24 : decode cX1_openShare 24 = .ok (.iload_n 1, 1) := dk_27 (dk_at dksX1_openShare_1 0 rfl rfl)
theorem dX1_openShare_25 : decode cX1_openShare 25 = .ok (.i2f, 1) := dk_134 (dk_at dksX1_openShare_1 1 rfl rfl)
theorem dX1_openShare_26 : decode cX1_openShare 26 = .ok (.fdiv, 1) := dk_110 (dk_at dksX1_openShare_1 2 rfl rfl)
theorem dX1_openShare_27 : decode cX1_openShare 27 = .ok (.freturn, 1) := dk_174 (dk_at dksX1_openShare_1 3 rfl rfl)
abbrev cX1_isConsistent : ByteArray := prog_1_method_55_code
def yX1_isConsistent : MethodName := ⟨RX1, "isConsistent", "()Z"⟩
def dkwX1_isConsistent_0 : List UInt8 := [42, 180, 0, 20, 182, 0, 125, 154, 0, 7, 4, 167, 0, 4, 3, 172]
abbrev dktX1_isConsistent_0 : List UInt8 := dkwX1_isConsistent_0 ++ []
theorem dksX1_isConsistent_0 : cX1_isConsistent.data.toList.drop 0 = dktX1_isConsistent_0 := by decide +kernel
theorem dX1_isConsistent_0 : decode cX1_isConsistent 0 = .ok (.aload_n 0, 1) := dk_42 (dk_at dksX1_isConsistent_0 0 rfl rfl)
theorem dX1_isConsistent_1 : decode cX1_isConsistent 1 = .ok (.getfield 20, 3) := dk_180 0 20 (dk_at dksX1_isConsistent_0 1 rfl rfl)
theorem dX1_isConsistent_4 : decode cX1_isConsistent 4 = .ok (.invokevirtual 125, 3) := dk_182 0 125 (dk_at dksX1_isConsistent_0 4 rfl rfl)
theorem dX1_isConsistent_7 : decode cX1_isConsistent 7 = .ok (.ifCond .ne 7, 3) := dk_154 0 7 (dk_at dksX1_isConsistent_0 7 rfl rfl)
theorem dX1_isConsistent_10 : decode cX1_isConsistent 10 = .ok (.iconst 1, 1) := dk_4 (dk_at dksX1_isConsistent_0 10 rfl rfl)
theorem dX1_isConsistent_11 : decode cX1_isConsistent 11 = .ok (.goto 4, 3) := dk_167 0 4 (dk_at dksX1_isConsistent_0 11 rfl rfl)
theorem dX1_isConsistent_14 : decode cX1_isConsistent 14 = .ok (.iconst 0, 1) := dk_3 (dk_at dksX1_isConsistent_0 14 rfl rfl)
theorem dX1_isConsistent_15 : decode cX1_isConsistent 15 = .ok (.ireturn, 1) := dk_172 (dk_at dksX1_isConsistent_0 15 rfl rfl)
abbrev cX1_chainLength : ByteArray := prog_1_method_56_code
def yX1_chainLength : MethodName := ⟨RX1, "chainLength", "()I"⟩
def dkwX1_chainLength_0 : List UInt8 := [42, 180, 0, 20, 182, 0, 232, 185, 0, 216, 1, 0, 172]
abbrev dktX1_chainLength_0 : List UInt8 := dkwX1_chainLength_0 ++ []
theorem dksX1_chainLength_0 : cX1_chainLength.data.toList.drop 0 = dktX1_chainLength_0 := by decide +kernel
theorem dX1_chainLength_0 : decode cX1_chainLength 0 = .ok (.aload_n 0, 1) := dk_42 (dk_at dksX1_chainLength_0 0 rfl rfl)
theorem dX1_chainLength_1 : decode cX1_chainLength 1 = .ok (.getfield 20, 3) := dk_180 0 20 (dk_at dksX1_chainLength_0 1 rfl rfl)
theorem dX1_chainLength_4 : decode cX1_chainLength 4 = .ok (.invokevirtual 232, 3) := dk_182 0 232 (dk_at dksX1_chainLength_0 4 rfl rfl)
theorem dX1_chainLength_7 : decode cX1_chainLength 7 = .ok (.invokeinterface 216 1, 5) := by decide +kernel
theorem dX1_chainLength_12 : decode cX1_chainLength 12 = .ok (.ireturn, 1) := dk_172 (dk_at dksX1_chainLength_0 12 rfl rfl)
abbrev cX1_hasCycle : ByteArray := prog_1_method_59_code
def yX1_hasCycle : MethodName := ⟨RX1, "hasCycle", "()Z"⟩
def dkwX1_hasCycle_0 : List UInt8 := [42, 180, 0, 20, 182, 0, 243, 172]
abbrev dktX1_hasCycle_0 : List UInt8 := dkwX1_hasCycle_0 ++ []
theorem dksX1_hasCycle_0 : cX1_hasCycle.data.toList.drop 0 = dktX1_hasCycle_0 := by decide +kernel
theorem dX1_hasCycle_0 : decode cX1_hasCycle 0 = .ok (.aload_n 0, 1) := dk_42 (dk_at dksX1_hasCycle_0 0 rfl rfl)
theorem dX1_hasCycle_1 : decode cX1_hasCycle 1 = .ok (.getfield 20, 3) := dk_180 0 20 (dk_at dksX1_hasCycle_0 1 rfl rfl)
theorem dX1_hasCycle_4 : decode cX1_hasCycle 4 = .ok (.invokevirtual 243, 3) := dk_182 0 243 (dk_at dksX1_hasCycle_0 4 rfl rfl)
theorem dX1_hasCycle_7 : decode cX1_hasCycle 7 = .ok (.ireturn, 1) := dk_172 (dk_at dksX1_hasCycle_0 7 rfl rfl)
abbrev cX1_danglingPointers : ByteArray := prog_1_method_60_code
def yX1_danglingPointers : MethodName := ⟨RX1, "danglingPointers", "()I"⟩
def dkwX1_danglingPointers_0 : List UInt8 := [42, 180, 0, 20, 182, 0, 246, 172]
abbrev dktX1_danglingPointers_0 : List UInt8 := dkwX1_danglingPointers_0 ++ []
theorem dksX1_danglingPointers_0 : cX1_danglingPointers.data.toList.drop 0 = dktX1_danglingPointers_0 := by decide +kernel
theorem dX1_danglingPointers_0 : decode cX1_danglingPointers 0 = .ok (.aload_n 0, 1) := dk_42 (dk_at dksX1_danglingPointers_0 0 rfl rfl)
theorem dX1_danglingPointers_1 : decode cX1_danglingPointers 1 = .ok (.getfield 20, 3) := dk_180 0 20 (dk_at dksX1_danglingPointers_0 1 rfl rfl)
theorem dX1_danglingPointers_4 : decode cX1_danglingPointers 4 = .ok (.invokevirtual 246, 3) := dk_182 0 246 (dk_at dksX1_danglingPointers_0 4 rfl rfl)
theorem dX1_danglingPointers_7 : decode cX1_danglingPointers 7 = .ok (.ireturn, 1) := dk_172 (dk_at dksX1_danglingPointers_0 7 rfl rfl)
abbrev cX1_wrongValues : ByteArray := prog_1_method_61_code
def yX1_wrongValues : MethodName := ⟨RX1, "wrongValues", "()I"⟩
def dkwX1_wrongValues_0 : List UInt8 := [42, 180, 0, 20, 182, 0, 125, 172]
abbrev dktX1_wrongValues_0 : List UInt8 := dkwX1_wrongValues_0 ++ []
theorem dksX1_wrongValues_0 : cX1_wrongValues.data.toList.drop 0 = dktX1_wrongValues_0 := by decide +kernel
theorem dX1_wrongValues_0 : decode cX1_wrongValues 0 = .ok (.aload_n 0, 1) := dk_42 (dk_at dksX1_wrongValues_0 0 rfl rfl)
theorem dX1_wrongValues_1 : decode cX1_wrongValues 1 = .ok (.getfield 20, 3) := dk_180 0 20 (dk_at dksX1_wrongValues_0 1 rfl rfl)
theorem dX1_wrongValues_4 : decode cX1_wrongValues 4 = .ok (.invokevirtual 125, 3) := dk_182 0 125 (dk_at dksX1_wrongValues_0 4 rfl rfl)
theorem dX1_wrongValues_7 : decode cX1_wrongValues 7 = .ok (.ireturn, 1) := dk_172 (dk_at dksX1_wrongValues_0 7 rfl rfl)
abbrev cX1_descents : ByteArray := prog_1_method_62_code
def yX1_descents : MethodName := ⟨RX1, "descents", "()I"⟩
def dkwX1_descents_0 : List UInt8 := [42, 180, 0, 20, 182, 0, 249, 172]
abbrev dktX1_descents_0 : List UInt8 := dkwX1_descents_0 ++ []
theorem dksX1_descents_0 : cX1_descents.data.toList.drop 0 = dktX1_descents_0 := by decide +kernel
theorem dX1_descents_0 : decode cX1_descents 0 = .ok (.aload_n 0, 1) := dk_42 (dk_at dksX1_descents_0 0 rfl rfl)
theorem dX1_descents_1 : decode cX1_descents 1 = .ok (.getfield 20, 3) := dk_180 0 20 (dk_at dksX1_descents_0 1 rfl rfl)
theorem dX1_descents_4 : decode cX1_descents 4 = .ok (.invokevirtual 249, 3) := dk_182 0 249 (dk_at dksX1_descents_0 4 rfl rfl)
theorem dX1_descents_7 : decode cX1_descents 7 = .ok (.ireturn, 1) := dk_172 (dk_at dksX1_descents_0 7 rfl rfl)
abbrev cX1_hasSingleFault : ByteArray := prog_1_method_63_code
def yX1_hasSingleFault : MethodName := ⟨RX1, "hasSingleFault", "()Z"⟩
def dkwX1_hasSingleFault_0 : List UInt8 := [42, 180, 0, 20, 182, 0, 125, 4, 160, 0, 7, 4, 167, 0, 4, 3, 172]
abbrev dktX1_hasSingleFault_0 : List UInt8 := dkwX1_hasSingleFault_0 ++ []
theorem dksX1_hasSingleFault_0 : cX1_hasSingleFault.data.toList.drop 0 = dktX1_hasSingleFault_0 := by decide +kernel
theorem dX1_hasSingleFault_0 : decode cX1_hasSingleFault 0 = .ok (.aload_n 0, 1) := dk_42 (dk_at dksX1_hasSingleFault_0 0 rfl rfl)
theorem dX1_hasSingleFault_1 : decode cX1_hasSingleFault 1 = .ok (.getfield 20, 3) := dk_180 0 20 (dk_at dksX1_hasSingleFault_0 1 rfl rfl)
theorem dX1_hasSingleFault_4 : decode cX1_hasSingleFault 4 = .ok (.invokevirtual 125, 3) := dk_182 0 125 (dk_at dksX1_hasSingleFault_0 4 rfl rfl)
theorem dX1_hasSingleFault_7 : decode cX1_hasSingleFault 7 = .ok (.iconst 1, 1) := dk_4 (dk_at dksX1_hasSingleFault_0 7 rfl rfl)
theorem dX1_hasSingleFault_8 : decode cX1_hasSingleFault 8 = .ok (.if_icmp .ne 7, 3) := dk_160 0 7 (dk_at dksX1_hasSingleFault_0 8 rfl rfl)
theorem dX1_hasSingleFault_11 : decode cX1_hasSingleFault 11 = .ok (.iconst 1, 1) := dk_4 (dk_at dksX1_hasSingleFault_0 11 rfl rfl)
theorem dX1_hasSingleFault_12 : decode cX1_hasSingleFault 12 = .ok (.goto 4, 3) := dk_167 0 4 (dk_at dksX1_hasSingleFault_0 12 rfl rfl)
theorem dX1_hasSingleFault_15 : decode cX1_hasSingleFault 15 = .ok (.iconst 0, 1) := dk_3 (dk_at dksX1_hasSingleFault_0 15 rfl rfl)
theorem dX1_hasSingleFault_16 : decode cX1_hasSingleFault 16 = .ok (.ireturn, 1) := dk_172 (dk_at dksX1_hasSingleFault_0 16 rfl rfl)
abbrev cX1_faultyInn : ByteArray := prog_1_method_64_code
def yX1_faultyInn : MethodName := ⟨RX1, "faultyInn", "()I"⟩
def dkwX1_faultyInn_1 : List UInt8 := [2, 172]
abbrev dktX1_faultyInn_1 : List UInt8 := dkwX1_faultyInn_1 ++ []
def dkwX1_faultyInn_0 : List UInt8 := [42, 182, 0, 177, 153, 0, 20, 42, 180, 0, 20, 42, 180, 0, 20, 182, 0, 252, 182, 1, 0, 167, 0, 4]
abbrev dktX1_faultyInn_0 : List UInt8 := dkwX1_faultyInn_0 ++ dktX1_faultyInn_1
theorem dksX1_faultyInn_0 : cX1_faultyInn.data.toList.drop 0 = dktX1_faultyInn_0 := by decide +kernel
theorem dksX1_faultyInn_1 : cX1_faultyInn.data.toList.drop 24 = dktX1_faultyInn_1 := dk_seg dksX1_faultyInn_0 24 rfl rfl
theorem dX1_faultyInn_0 : decode cX1_faultyInn 0 = .ok (.aload_n 0, 1) := dk_42 (dk_at dksX1_faultyInn_0 0 rfl rfl)
theorem dX1_faultyInn_1 : decode cX1_faultyInn 1 = .ok (.invokevirtual 177, 3) := dk_182 0 177 (dk_at dksX1_faultyInn_0 1 rfl rfl)
theorem dX1_faultyInn_4 : decode cX1_faultyInn 4 = .ok (.ifCond .eq 20, 3) := dk_153 0 20 (dk_at dksX1_faultyInn_0 4 rfl rfl)
theorem dX1_faultyInn_7 : decode cX1_faultyInn 7 = .ok (.aload_n 0, 1) := dk_42 (dk_at dksX1_faultyInn_0 7 rfl rfl)
theorem dX1_faultyInn_8 : decode cX1_faultyInn 8 = .ok (.getfield 20, 3) := dk_180 0 20 (dk_at dksX1_faultyInn_0 8 rfl rfl)
theorem dX1_faultyInn_11 : decode cX1_faultyInn 11 = .ok (.aload_n 0, 1) := dk_42 (dk_at dksX1_faultyInn_0 11 rfl rfl)
theorem dX1_faultyInn_12 : decode cX1_faultyInn 12 = .ok (.getfield 20, 3) := dk_180 0 20 (dk_at dksX1_faultyInn_0 12 rfl rfl)
theorem dX1_faultyInn_15 : decode cX1_faultyInn 15 = .ok (.invokevirtual 252, 3) := dk_182 0 252 (dk_at dksX1_faultyInn_0 15 rfl rfl)
theorem dX1_faultyInn_18 : decode cX1_faultyInn 18 = .ok (.invokevirtual 256, 3) := dk_182 1 0 (dk_at dksX1_faultyInn_0 18 rfl rfl)
theorem dX1_faultyInn_21 : decode cX1_faultyInn 21 = .ok (.goto 4, 3) := dk_167 0 4 (dk_at dksX1_faultyInn_0 21 rfl rfl)
theorem dX1_faultyInn_24 : decode cX1_faultyInn 24 = .ok (.iconst (-1), 1) := dk_2 (dk_at dksX1_faultyInn_1 0 rfl rfl)
theorem dX1_faultyInn_25 : decode cX1_faultyInn 25 = .ok (.ireturn, 1) := dk_172 (dk_at dksX1_faultyInn_1 1 rfl rfl)
abbrev cX1_write : ByteArray := prog_1_method_80_code
def yX1_write : MethodName := ⟨RX1, "write", "()I"⟩
def dkwX1_write_5 : List UInt8 := [167, 255, 162, 42, 43, 182, 1, 83, 42, 43, 182, 1, 87, 181, 0, 35, 42, 180, 0, 35, 182, 1, 91, 172]
abbrev dktX1_write_5 : List UInt8 := dkwX1_write_5 ++ []
def dkwX1_write_4 : List UInt8 := [180, 0, 131, 158, 0, 18, 43, 19, 1, 81, 182, 1, 40, 45, 180, 0, 131, 182, 1, 49, 87, 132, 2, 1]
abbrev dktX1_write_4 : List UInt8 := dkwX1_write_4 ++ dktX1_write_5
def dkwX1_write_3 : List UInt8 := [182, 1, 49, 45, 180, 0, 138, 153, 0, 8, 18, 33, 167, 0, 6, 19, 1, 79, 182, 1, 40, 87, 45]
abbrev dktX1_write_3 : List UInt8 := dkwX1_write_3 ++ dktX1_write_4
def dkwX1_write_2 : List UInt8 := [50, 78, 43, 19, 1, 77, 182, 1, 40, 28, 182, 1, 49, 16, 32, 182, 1, 46, 45, 180, 0, 149]
abbrev dktX1_write_2 : List UInt8 := dkwX1_write_2 ++ dktX1_write_3
def dkwX1_write_1 : List UInt8 := [16, 12, 162, 0, 94, 42, 180, 0, 20, 28, 182, 0, 65, 153, 0, 77, 42, 180, 0, 20, 180, 0, 43, 28]
abbrev dktX1_write_1 : List UInt8 := dkwX1_write_1 ++ dktX1_write_2
def dkwX1_write_0 : List UInt8 := [187, 1, 41, 89, 19, 1, 72, 183, 1, 74, 42, 180, 0, 20, 180, 0, 39, 182, 1, 49, 76, 3, 61, 28]
abbrev dktX1_write_0 : List UInt8 := dkwX1_write_0 ++ dktX1_write_1
theorem dksX1_write_0 : cX1_write.data.toList.drop 0 = dktX1_write_0 := by decide +kernel
theorem dksX1_write_1 : cX1_write.data.toList.drop 24 = dktX1_write_1 := dk_seg dksX1_write_0 24 rfl rfl
theorem dksX1_write_2 : cX1_write.data.toList.drop 48 = dktX1_write_2 := dk_seg dksX1_write_1 24 rfl rfl
theorem dksX1_write_3 : cX1_write.data.toList.drop 70 = dktX1_write_3 := dk_seg dksX1_write_2 22 rfl rfl
theorem dksX1_write_4 : cX1_write.data.toList.drop 93 = dktX1_write_4 := dk_seg dksX1_write_3 23 rfl rfl
theorem dksX1_write_5 : cX1_write.data.toList.drop 117 = dktX1_write_5 := dk_seg dksX1_write_4 24 rfl rfl
theorem dX1_write_0 : decode cX1_write 0 = .ok (.new 297, 3) := dk_187 1 41 (dk_at dksX1_write_0 0 rfl rfl)
theorem dX1_write_3 : decode cX1_write 3 = .ok (.dup, 1) := dk_89 (dk_at dksX1_write_0 3 rfl rfl)
theorem dX1_write_4 : decode cX1_write 4 = .ok (.ldc_w 328, 3) := dk_19 1 72 (dk_at dksX1_write_0 4 rfl rfl)
theorem dX1_write_7 : decode cX1_write 7 = .ok (.invokespecial 330, 3) := dk_183 1 74 (dk_at dksX1_write_0 7 rfl rfl)
theorem dX1_write_10 : decode cX1_write 10 = .ok (.aload_n 0, 1) := dk_42 (dk_at dksX1_write_0 10 rfl rfl)
theorem dX1_write_11 : decode cX1_write 11 = .ok (.getfield 20, 3) := dk_180 0 20 (dk_at dksX1_write_0 11 rfl rfl)
theorem dX1_write_14 : decode cX1_write 14 = .ok (.getfield 39, 3) := dk_180 0 39 (dk_at dksX1_write_0 14 rfl rfl)
theorem dX1_write_17 : decode cX1_write 17 = .ok (.invokevirtual 305, 3) := dk_182 1 49 (dk_at dksX1_write_0 17 rfl rfl)
theorem dX1_write_20 : decode cX1_write 20 = .ok (.astore_n 1, 1) := dk_76 (dk_at dksX1_write_0 20 rfl rfl)
theorem dX1_write_21 : decode cX1_write 21 = .ok (.iconst 0, 1) := dk_3 (dk_at dksX1_write_0 21 rfl rfl)
theorem dX1_write_22 : decode cX1_write 22 = .ok (.istore_n 2, 1) := dk_61 (dk_at dksX1_write_0 22 rfl rfl)
theorem dX1_write_23 : decode cX1_write 23 = .ok (.iload_n 2, 1) := dk_28 (dk_at dksX1_write_0 23 rfl rfl)
theorem dX1_write_24 : decode cX1_write 24 = .ok (.bipush 12, 2) := dk_16 12 (dk_at dksX1_write_1 0 rfl rfl)
theorem dX1_write_26 : decode cX1_write 26 = .ok (.if_icmp .ge 94, 3) := dk_162 0 94 (dk_at dksX1_write_1 2 rfl rfl)
theorem dX1_write_29 : decode cX1_write 29 = .ok (.aload_n 0, 1) := dk_42 (dk_at dksX1_write_1 5 rfl rfl)
theorem dX1_write_30 : decode cX1_write 30 = .ok (.getfield 20, 3) := dk_180 0 20 (dk_at dksX1_write_1 6 rfl rfl)
theorem dX1_write_33 : decode cX1_write 33 = .ok (.iload_n 2, 1) := dk_28 (dk_at dksX1_write_1 9 rfl rfl)
theorem dX1_write_34 : decode cX1_write 34 = .ok (.invokevirtual 65, 3) := dk_182 0 65 (dk_at dksX1_write_1 10 rfl rfl)
theorem dX1_write_37 : decode cX1_write 37 = .ok (.ifCond .eq 77, 3) := dk_153 0 77 (dk_at dksX1_write_1 13 rfl rfl)
theorem dX1_write_40 : decode cX1_write 40 = .ok (.aload_n 0, 1) := dk_42 (dk_at dksX1_write_1 16 rfl rfl)
theorem dX1_write_41 : decode cX1_write 41 = .ok (.getfield 20, 3) := dk_180 0 20 (dk_at dksX1_write_1 17 rfl rfl)
theorem dX1_write_44 : decode cX1_write 44 = .ok (.getfield 43, 3) := dk_180 0 43 (dk_at dksX1_write_1 20 rfl rfl)
theorem dX1_write_47 : decode cX1_write 47 = .ok (.iload_n 2, 1) := dk_28 (dk_at dksX1_write_1 23 rfl rfl)
theorem dX1_write_48 : decode cX1_write 48 = .ok (.aaload, 1) := dk_50 (dk_at dksX1_write_2 0 rfl rfl)
theorem dX1_write_49 : decode cX1_write 49 = .ok (.astore_n 3, 1) := dk_78 (dk_at dksX1_write_2 1 rfl rfl)
theorem dX1_write_50 : decode cX1_write 50 = .ok (.aload_n 1, 1) := dk_43 (dk_at dksX1_write_2 2 rfl rfl)
theorem dX1_write_51 : decode cX1_write 51 = .ok (.ldc_w 333, 3) := dk_19 1 77 (dk_at dksX1_write_2 3 rfl rfl)
theorem dX1_write_54 : decode cX1_write 54 = .ok (.invokevirtual 296, 3) := dk_182 1 40 (dk_at dksX1_write_2 6 rfl rfl)
theorem dX1_write_57 : decode cX1_write 57 = .ok (.iload_n 2, 1) := dk_28 (dk_at dksX1_write_2 9 rfl rfl)
theorem dX1_write_58 : decode cX1_write 58 = .ok (.invokevirtual 305, 3) := dk_182 1 49 (dk_at dksX1_write_2 10 rfl rfl)
theorem dX1_write_61 : decode cX1_write 61 = .ok (.bipush 32, 2) := dk_16 32 (dk_at dksX1_write_2 13 rfl rfl)
theorem dX1_write_63 : decode cX1_write 63 = .ok (.invokevirtual 302, 3) := dk_182 1 46 (dk_at dksX1_write_2 15 rfl rfl)
theorem dX1_write_66 : decode cX1_write 66 = .ok (.aload_n 3, 1) := dk_45 (dk_at dksX1_write_2 18 rfl rfl)
theorem dX1_write_67 : decode cX1_write 67 = .ok (.getfield 149, 3) := dk_180 0 149 (dk_at dksX1_write_2 19 rfl rfl)
theorem dX1_write_70 : decode cX1_write 70 = .ok (.invokevirtual 305, 3) := dk_182 1 49 (dk_at dksX1_write_3 0 rfl rfl)
theorem dX1_write_73 : decode cX1_write 73 = .ok (.aload_n 3, 1) := dk_45 (dk_at dksX1_write_3 3 rfl rfl)
theorem dX1_write_74 : decode cX1_write 74 = .ok (.getfield 138, 3) := dk_180 0 138 (dk_at dksX1_write_3 4 rfl rfl)
theorem dX1_write_77 : decode cX1_write 77 = .ok (.ifCond .eq 8, 3) := dk_153 0 8 (dk_at dksX1_write_3 7 rfl rfl)
theorem dX1_write_80 : decode cX1_write 80 = .ok (.ldc 33, 2) := dk_18 33 (dk_at dksX1_write_3 10 rfl rfl)
theorem dX1_write_82 : decode cX1_write 82 = .ok (.goto 6, 3) := dk_167 0 6 (dk_at dksX1_write_3 12 rfl rfl)
theorem dX1_write_85 : decode cX1_write 85 = .ok (.ldc_w 335, 3) := dk_19 1 79 (dk_at dksX1_write_3 15 rfl rfl)
theorem dX1_write_88 : decode cX1_write 88 = .ok (.invokevirtual 296, 3) := dk_182 1 40 (dk_at dksX1_write_3 18 rfl rfl)
theorem dX1_write_91 : decode cX1_write 91 = .ok (.pop, 1) := dk_87 (dk_at dksX1_write_3 21 rfl rfl)
theorem dX1_write_92 : decode cX1_write 92 = .ok (.aload_n 3, 1) := dk_45 (dk_at dksX1_write_3 22 rfl rfl)
theorem dX1_write_93 : decode cX1_write 93 = .ok (.getfield 131, 3) := dk_180 0 131 (dk_at dksX1_write_4 0 rfl rfl)
theorem dX1_write_96 : decode cX1_write 96 = .ok (.ifCond .le 18, 3) := dk_158 0 18 (dk_at dksX1_write_4 3 rfl rfl)
theorem dX1_write_99 : decode cX1_write 99 = .ok (.aload_n 1, 1) := dk_43 (dk_at dksX1_write_4 6 rfl rfl)
theorem dX1_write_100 : decode cX1_write 100 = .ok (.ldc_w 337, 3) := dk_19 1 81 (dk_at dksX1_write_4 7 rfl rfl)
theorem dX1_write_103 : decode cX1_write 103 = .ok (.invokevirtual 296, 3) := dk_182 1 40 (dk_at dksX1_write_4 10 rfl rfl)
theorem dX1_write_106 : decode cX1_write 106 = .ok (.aload_n 3, 1) := dk_45 (dk_at dksX1_write_4 13 rfl rfl)
theorem dX1_write_107 : decode cX1_write 107 = .ok (.getfield 131, 3) := dk_180 0 131 (dk_at dksX1_write_4 14 rfl rfl)
theorem dX1_write_110 : decode cX1_write 110 = .ok (.invokevirtual 305, 3) := dk_182 1 49 (dk_at dksX1_write_4 17 rfl rfl)
theorem dX1_write_113 : decode cX1_write 113 = .ok (.pop, 1) := dk_87 (dk_at dksX1_write_4 20 rfl rfl)
theorem dX1_write_114 : decode cX1_write 114 = .ok (.iinc 2 1, 3) := dk_132 2 1 (dk_at dksX1_write_4 21 rfl rfl)
theorem dX1_write_117 : decode cX1_write 117 = .ok (.goto (-94), 3) := dk_167 255 162 (dk_at dksX1_write_5 0 rfl rfl)
theorem dX1_write_120 : decode cX1_write 120 = .ok (.aload_n 0, 1) := dk_42 (dk_at dksX1_write_5 3 rfl rfl)
theorem dX1_write_121 : decode cX1_write 121 = .ok (.aload_n 1, 1) := dk_43 (dk_at dksX1_write_5 4 rfl rfl)
theorem dX1_write_122 : decode cX1_write 122 = .ok (.invokevirtual 339, 3) := dk_182 1 83 (dk_at dksX1_write_5 5 rfl rfl)
theorem dX1_write_125 : decode cX1_write 125 = .ok (.aload_n 0, 1) := dk_42 (dk_at dksX1_write_5 8 rfl rfl)
theorem dX1_write_126 : decode cX1_write 126 = .ok (.aload_n 1, 1) := dk_43 (dk_at dksX1_write_5 9 rfl rfl)
theorem dX1_write_127 : decode cX1_write 127 = .ok (.invokevirtual 343, 3) := dk_182 1 87 (dk_at dksX1_write_5 10 rfl rfl)
theorem dX1_write_130 : decode cX1_write 130 = .ok (.putfield 35, 3) := dk_181 0 35 (dk_at dksX1_write_5 13 rfl rfl)
theorem dX1_write_133 : decode cX1_write 133 = .ok (.aload_n 0, 1) := dk_42 (dk_at dksX1_write_5 16 rfl rfl)
theorem dX1_write_134 : decode cX1_write 134 = .ok (.getfield 35, 3) := dk_180 0 35 (dk_at dksX1_write_5 17 rfl rfl)
theorem dX1_write_137 : decode cX1_write 137 = .ok (.invokevirtual 347, 3) := dk_182 1 91 (dk_at dksX1_write_5 20 rfl rfl)
theorem dX1_write_140 : decode cX1_write 140 = .ok (.ireturn, 1) := dk_172 (dk_at dksX1_write_5 23 rfl rfl)
abbrev cX1_writeValues : ByteArray := prog_1_method_79_code
def yX1_writeValues : MethodName := ⟨RX1, "writeValues", "(Ljava/lang/StringBuilder;)V"⟩
def dkwX1_writeValues_5 : List UInt8 := [184, 1, 66, 177]
abbrev dktX1_writeValues_5 : List UInt8 := dkwX1_writeValues_5 ++ []
def dkwX1_writeValues_4 : List UInt8 := [180, 0, 159, 45, 180, 0, 159, 184, 1, 66, 43, 19, 1, 70, 44, 180, 0, 165, 45, 180, 0, 165]
abbrev dktX1_writeValues_4 : List UInt8 := dkwX1_writeValues_4 ++ dktX1_writeValues_5
def dkwX1_writeValues_3 : List UInt8 := [159, 0, 18, 43, 19, 1, 62, 182, 1, 40, 44, 180, 0, 174, 182, 1, 49, 87, 43, 19, 1, 64, 44]
abbrev dktX1_writeValues_3 : List UInt8 := dkwX1_writeValues_3 ++ dktX1_writeValues_4
def dkwX1_writeValues_2 : List UInt8 := [159, 0, 14, 43, 19, 1, 60, 44, 180, 0, 171, 184, 1, 54, 44, 180, 0, 174, 45, 180, 0, 174]
abbrev dktX1_writeValues_2 : List UInt8 := dkwX1_writeValues_2 ++ dktX1_writeValues_3
def dkwX1_writeValues_1 : List UInt8 := [159, 0, 14, 43, 19, 1, 58, 44, 180, 0, 168, 184, 1, 54, 44, 180, 0, 171, 45, 180, 0, 171]
abbrev dktX1_writeValues_1 : List UInt8 := dkwX1_writeValues_1 ++ dktX1_writeValues_2
def dkwX1_writeValues_0 : List UInt8 := [42, 180, 0, 20, 180, 0, 155, 77, 42, 180, 0, 20, 182, 0, 252, 78, 44, 180, 0, 168, 45, 180, 0, 168]
abbrev dktX1_writeValues_0 : List UInt8 := dkwX1_writeValues_0 ++ dktX1_writeValues_1
theorem dksX1_writeValues_0 : cX1_writeValues.data.toList.drop 0 = dktX1_writeValues_0 := by decide +kernel
theorem dksX1_writeValues_1 : cX1_writeValues.data.toList.drop 24 = dktX1_writeValues_1 := dk_seg dksX1_writeValues_0 24 rfl rfl
theorem dksX1_writeValues_2 : cX1_writeValues.data.toList.drop 46 = dktX1_writeValues_2 := dk_seg dksX1_writeValues_1 22 rfl rfl
theorem dksX1_writeValues_3 : cX1_writeValues.data.toList.drop 68 = dktX1_writeValues_3 := dk_seg dksX1_writeValues_2 22 rfl rfl
theorem dksX1_writeValues_4 : cX1_writeValues.data.toList.drop 91 = dktX1_writeValues_4 := dk_seg dksX1_writeValues_3 23 rfl rfl
theorem dksX1_writeValues_5 : cX1_writeValues.data.toList.drop 113 = dktX1_writeValues_5 := dk_seg dksX1_writeValues_4 22 rfl rfl
theorem dX1_writeValues_0 : decode cX1_writeValues 0 = .ok (.aload_n 0, 1) := dk_42 (dk_at dksX1_writeValues_0 0 rfl rfl)
theorem dX1_writeValues_1 : decode cX1_writeValues 1 = .ok (.getfield 20, 3) := dk_180 0 20 (dk_at dksX1_writeValues_0 1 rfl rfl)
theorem dX1_writeValues_4 : decode cX1_writeValues 4 = .ok (.getfield 155, 3) := dk_180 0 155 (dk_at dksX1_writeValues_0 4 rfl rfl)
theorem dX1_writeValues_7 : decode cX1_writeValues 7 = .ok (.astore_n 2, 1) := dk_77 (dk_at dksX1_writeValues_0 7 rfl rfl)
theorem dX1_writeValues_8 : decode cX1_writeValues 8 = .ok (.aload_n 0, 1) := dk_42 (dk_at dksX1_writeValues_0 8 rfl rfl)
theorem dX1_writeValues_9 : decode cX1_writeValues 9 = .ok (.getfield 20, 3) := dk_180 0 20 (dk_at dksX1_writeValues_0 9 rfl rfl)
theorem dX1_writeValues_12 : decode cX1_writeValues 12 = .ok (.invokevirtual 252, 3) := dk_182 0 252 (dk_at dksX1_writeValues_0 12 rfl rfl)
theorem dX1_writeValues_15 : decode cX1_writeValues 15 = .ok (.astore_n 3, 1) := dk_78 (dk_at dksX1_writeValues_0 15 rfl rfl)
theorem dX1_writeValues_16 : decode cX1_writeValues 16 = .ok (.aload_n 2, 1) := dk_44 (dk_at dksX1_writeValues_0 16 rfl rfl)
theorem dX1_writeValues_17 : decode cX1_writeValues 17 = .ok (.getfield 168, 3) := dk_180 0 168 (dk_at dksX1_writeValues_0 17 rfl rfl)
theorem dX1_writeValues_20 : decode cX1_writeValues 20 = .ok (.aload_n 3, 1) := dk_45 (dk_at dksX1_writeValues_0 20 rfl rfl)
theorem dX1_writeValues_21 : decode cX1_writeValues 21 = .ok (.getfield 168, 3) := dk_180 0 168 (dk_at dksX1_writeValues_0 21 rfl rfl)
theorem dX1_writeValues_24 : decode cX1_writeValues 24 = .ok (.if_icmp .eq 14, 3) := dk_159 0 14 (dk_at dksX1_writeValues_1 0 rfl rfl)
theorem dX1_writeValues_27 : decode cX1_writeValues 27 = .ok (.aload_n 1, 1) := dk_43 (dk_at dksX1_writeValues_1 3 rfl rfl)
theorem dX1_writeValues_28 : decode cX1_writeValues 28 = .ok (.ldc_w 314, 3) := dk_19 1 58 (dk_at dksX1_writeValues_1 4 rfl rfl)
theorem dX1_writeValues_31 : decode cX1_writeValues 31 = .ok (.aload_n 2, 1) := dk_44 (dk_at dksX1_writeValues_1 7 rfl rfl)
theorem dX1_writeValues_32 : decode cX1_writeValues 32 = .ok (.getfield 168, 3) := dk_180 0 168 (dk_at dksX1_writeValues_1 8 rfl rfl)
theorem dX1_writeValues_35 : decode cX1_writeValues 35 = .ok (.invokestatic 310, 3) := dk_184 1 54 (dk_at dksX1_writeValues_1 11 rfl rfl)
theorem dX1_writeValues_38 : decode cX1_writeValues 38 = .ok (.aload_n 2, 1) := dk_44 (dk_at dksX1_writeValues_1 14 rfl rfl)
theorem dX1_writeValues_39 : decode cX1_writeValues 39 = .ok (.getfield 171, 3) := dk_180 0 171 (dk_at dksX1_writeValues_1 15 rfl rfl)
theorem dX1_writeValues_42 : decode cX1_writeValues 42 = .ok (.aload_n 3, 1) := dk_45 (dk_at dksX1_writeValues_1 18 rfl rfl)
theorem dX1_writeValues_43 : decode cX1_writeValues 43 = .ok (.getfield 171, 3) := dk_180 0 171 (dk_at dksX1_writeValues_1 19 rfl rfl)
theorem dX1_writeValues_46 : decode cX1_writeValues 46 = .ok (.if_icmp .eq 14, 3) := dk_159 0 14 (dk_at dksX1_writeValues_2 0 rfl rfl)
theorem dX1_writeValues_49 : decode cX1_writeValues 49 = .ok (.aload_n 1, 1) := dk_43 (dk_at dksX1_writeValues_2 3 rfl rfl)
theorem dX1_writeValues_50 : decode cX1_writeValues 50 = .ok (.ldc_w 316, 3) := dk_19 1 60 (dk_at dksX1_writeValues_2 4 rfl rfl)
theorem dX1_writeValues_53 : decode cX1_writeValues 53 = .ok (.aload_n 2, 1) := dk_44 (dk_at dksX1_writeValues_2 7 rfl rfl)
theorem dX1_writeValues_54 : decode cX1_writeValues 54 = .ok (.getfield 171, 3) := dk_180 0 171 (dk_at dksX1_writeValues_2 8 rfl rfl)
theorem dX1_writeValues_57 : decode cX1_writeValues 57 = .ok (.invokestatic 310, 3) := dk_184 1 54 (dk_at dksX1_writeValues_2 11 rfl rfl)
theorem dX1_writeValues_60 : decode cX1_writeValues 60 = .ok (.aload_n 2, 1) := dk_44 (dk_at dksX1_writeValues_2 14 rfl rfl)
theorem dX1_writeValues_61 : decode cX1_writeValues 61 = .ok (.getfield 174, 3) := dk_180 0 174 (dk_at dksX1_writeValues_2 15 rfl rfl)
theorem dX1_writeValues_64 : decode cX1_writeValues 64 = .ok (.aload_n 3, 1) := dk_45 (dk_at dksX1_writeValues_2 18 rfl rfl)
theorem dX1_writeValues_65 : decode cX1_writeValues 65 = .ok (.getfield 174, 3) := dk_180 0 174 (dk_at dksX1_writeValues_2 19 rfl rfl)
theorem dX1_writeValues_68 : decode cX1_writeValues 68 = .ok (.if_icmp .eq 18, 3) := dk_159 0 18 (dk_at dksX1_writeValues_3 0 rfl rfl)
theorem dX1_writeValues_71 : decode cX1_writeValues 71 = .ok (.aload_n 1, 1) := dk_43 (dk_at dksX1_writeValues_3 3 rfl rfl)
theorem dX1_writeValues_72 : decode cX1_writeValues 72 = .ok (.ldc_w 318, 3) := dk_19 1 62 (dk_at dksX1_writeValues_3 4 rfl rfl)
theorem dX1_writeValues_75 : decode cX1_writeValues 75 = .ok (.invokevirtual 296, 3) := dk_182 1 40 (dk_at dksX1_writeValues_3 7 rfl rfl)
theorem dX1_writeValues_78 : decode cX1_writeValues 78 = .ok (.aload_n 2, 1) := dk_44 (dk_at dksX1_writeValues_3 10 rfl rfl)
theorem dX1_writeValues_79 : decode cX1_writeValues 79 = .ok (.getfield 174, 3) := dk_180 0 174 (dk_at dksX1_writeValues_3 11 rfl rfl)
theorem dX1_writeValues_82 : decode cX1_writeValues 82 = .ok (.invokevirtual 305, 3) := dk_182 1 49 (dk_at dksX1_writeValues_3 14 rfl rfl)
theorem dX1_writeValues_85 : decode cX1_writeValues 85 = .ok (.pop, 1) := dk_87 (dk_at dksX1_writeValues_3 17 rfl rfl)
theorem dX1_writeValues_86 : decode cX1_writeValues 86 = .ok (.aload_n 1, 1) := dk_43 (dk_at dksX1_writeValues_3 18 rfl rfl)
theorem dX1_writeValues_87 : decode cX1_writeValues 87 = .ok (.ldc_w 320, 3) := dk_19 1 64 (dk_at dksX1_writeValues_3 19 rfl rfl)
theorem dX1_writeValues_90 : decode cX1_writeValues 90 = .ok (.aload_n 2, 1) := dk_44 (dk_at dksX1_writeValues_3 22 rfl rfl)
theorem dX1_writeValues_91 : decode cX1_writeValues 91 = .ok (.getfield 159, 3) := dk_180 0 159 (dk_at dksX1_writeValues_4 0 rfl rfl)
theorem dX1_writeValues_94 : decode cX1_writeValues 94 = .ok (.aload_n 3, 1) := dk_45 (dk_at dksX1_writeValues_4 3 rfl rfl)
theorem dX1_writeValues_95 : decode cX1_writeValues 95 = .ok (.getfield 159, 3) := dk_180 0 159 (dk_at dksX1_writeValues_4 4 rfl rfl)
theorem dX1_writeValues_98 : decode cX1_writeValues 98 = .ok (.invokestatic 322, 3) := dk_184 1 66 (dk_at dksX1_writeValues_4 7 rfl rfl)
theorem dX1_writeValues_101 : decode cX1_writeValues 101 = .ok (.aload_n 1, 1) := dk_43 (dk_at dksX1_writeValues_4 10 rfl rfl)
theorem dX1_writeValues_102 : decode cX1_writeValues 102 = .ok (.ldc_w 326, 3) := dk_19 1 70 (dk_at dksX1_writeValues_4 11 rfl rfl)
theorem dX1_writeValues_105 : decode cX1_writeValues 105 = .ok (.aload_n 2, 1) := dk_44 (dk_at dksX1_writeValues_4 14 rfl rfl)
theorem dX1_writeValues_106 : decode cX1_writeValues 106 = .ok (.getfield 165, 3) := dk_180 0 165 (dk_at dksX1_writeValues_4 15 rfl rfl)
theorem dX1_writeValues_109 : decode cX1_writeValues 109 = .ok (.aload_n 3, 1) := dk_45 (dk_at dksX1_writeValues_4 18 rfl rfl)
theorem dX1_writeValues_110 : decode cX1_writeValues 110 = .ok (.getfield 165, 3) := dk_180 0 165 (dk_at dksX1_writeValues_4 19 rfl rfl)
theorem dX1_writeValues_113 : decode cX1_writeValues 113 = .ok (.invokestatic 322, 3) := dk_184 1 66 (dk_at dksX1_writeValues_5 0 rfl rfl)
theorem dX1_writeValues_116 : decode cX1_writeValues 116 = .ok (.return_, 1) := dk_177 (dk_at dksX1_writeValues_5 3 rfl rfl)
abbrev cX1_writePointer : ByteArray := prog_1_method_77_code
def yX1_writePointer : MethodName := ⟨RX1, "writePointer", "(Ljava/lang/StringBuilder;Ljava/lang/String;I)V"⟩
def dkwX1_writePointer_1 : List UInt8 := [182, 1, 49, 87, 177]
abbrev dktX1_writePointer_1 : List UInt8 := dkwX1_writePointer_1 ++ []
def dkwX1_writePointer_0 : List UInt8 := [42, 43, 182, 1, 40, 87, 28, 2, 160, 0, 13, 42, 16, 45, 182, 1, 46, 87, 167, 0, 9, 42, 28]
abbrev dktX1_writePointer_0 : List UInt8 := dkwX1_writePointer_0 ++ dktX1_writePointer_1
theorem dksX1_writePointer_0 : cX1_writePointer.data.toList.drop 0 = dktX1_writePointer_0 := by decide +kernel
theorem dksX1_writePointer_1 : cX1_writePointer.data.toList.drop 23 = dktX1_writePointer_1 := dk_seg dksX1_writePointer_0 23 rfl rfl
theorem dX1_writePointer_0 : decode cX1_writePointer 0 = .ok (.aload_n 0, 1) := dk_42 (dk_at dksX1_writePointer_0 0 rfl rfl)
theorem dX1_writePointer_1 : decode cX1_writePointer 1 = .ok (.aload_n 1, 1) := dk_43 (dk_at dksX1_writePointer_0 1 rfl rfl)
theorem dX1_writePointer_2 : decode cX1_writePointer 2 = .ok (.invokevirtual 296, 3) := dk_182 1 40 (dk_at dksX1_writePointer_0 2 rfl rfl)
theorem dX1_writePointer_5 : decode cX1_writePointer 5 = .ok (.pop, 1) := dk_87 (dk_at dksX1_writePointer_0 5 rfl rfl)
theorem dX1_writePointer_6 : decode cX1_writePointer 6 = .ok (.iload_n 2, 1) := dk_28 (dk_at dksX1_writePointer_0 6 rfl rfl)
theorem dX1_writePointer_7 : decode cX1_writePointer 7 = .ok (.iconst (-1), 1) := dk_2 (dk_at dksX1_writePointer_0 7 rfl rfl)
theorem dX1_writePointer_8 : decode cX1_writePointer 8 = .ok (.if_icmp .ne 13, 3) := dk_160 0 13 (dk_at dksX1_writePointer_0 8 rfl rfl)
theorem dX1_writePointer_11 : decode cX1_writePointer 11 = .ok (.aload_n 0, 1) := dk_42 (dk_at dksX1_writePointer_0 11 rfl rfl)
theorem dX1_writePointer_12 : decode cX1_writePointer 12 = .ok (.bipush 45, 2) := dk_16 45 (dk_at dksX1_writePointer_0 12 rfl rfl)
theorem dX1_writePointer_14 : decode cX1_writePointer 14 = .ok (.invokevirtual 302, 3) := dk_182 1 46 (dk_at dksX1_writePointer_0 14 rfl rfl)
theorem dX1_writePointer_17 : decode cX1_writePointer 17 = .ok (.pop, 1) := dk_87 (dk_at dksX1_writePointer_0 17 rfl rfl)
theorem dX1_writePointer_18 : decode cX1_writePointer 18 = .ok (.goto 9, 3) := dk_167 0 9 (dk_at dksX1_writePointer_0 18 rfl rfl)
theorem dX1_writePointer_21 : decode cX1_writePointer 21 = .ok (.aload_n 0, 1) := dk_42 (dk_at dksX1_writePointer_0 21 rfl rfl)
theorem dX1_writePointer_22 : decode cX1_writePointer 22 = .ok (.iload_n 2, 1) := dk_28 (dk_at dksX1_writePointer_0 22 rfl rfl)
theorem dX1_writePointer_23 : decode cX1_writePointer 23 = .ok (.invokevirtual 305, 3) := dk_182 1 49 (dk_at dksX1_writePointer_1 0 rfl rfl)
theorem dX1_writePointer_26 : decode cX1_writePointer 26 = .ok (.pop, 1) := dk_87 (dk_at dksX1_writePointer_1 3 rfl rfl)
theorem dX1_writePointer_27 : decode cX1_writePointer 27 = .ok (.return_, 1) := dk_177 (dk_at dksX1_writePointer_1 4 rfl rfl)
abbrev cX1_writePointers : ByteArray := prog_1_method_78_code
def yX1_writePointers : MethodName := ⟨RX1, "writePointers", "(Ljava/lang/StringBuilder;Ljava/lang/String;[I[I)V"⟩
def dkwX1_writePointers_2 : List UInt8 := [167, 255, 213, 177]
abbrev dktX1_writePointers_2 : List UInt8 := dkwX1_writePointers_2 ++ []
def dkwX1_writePointers_1 : List UInt8 := [182, 1, 40, 21, 4, 182, 1, 49, 87, 42, 19, 1, 52, 44, 21, 4, 46, 184, 1, 54, 132, 4, 1]
abbrev dktX1_writePointers_1 : List UInt8 := dkwX1_writePointers_1 ++ dktX1_writePointers_2
def dkwX1_writePointers_0 : List UInt8 := [3, 54, 4, 21, 4, 16, 12, 162, 0, 42, 44, 21, 4, 46, 45, 21, 4, 46, 159, 0, 25, 42, 43]
abbrev dktX1_writePointers_0 : List UInt8 := dkwX1_writePointers_0 ++ dktX1_writePointers_1
theorem dksX1_writePointers_0 : cX1_writePointers.data.toList.drop 0 = dktX1_writePointers_0 := by decide +kernel
theorem dksX1_writePointers_1 : cX1_writePointers.data.toList.drop 23 = dktX1_writePointers_1 := dk_seg dksX1_writePointers_0 23 rfl rfl
theorem dksX1_writePointers_2 : cX1_writePointers.data.toList.drop 46 = dktX1_writePointers_2 := dk_seg dksX1_writePointers_1 23 rfl rfl
theorem dX1_writePointers_0 : decode cX1_writePointers 0 = .ok (.iconst 0, 1) := dk_3 (dk_at dksX1_writePointers_0 0 rfl rfl)
theorem dX1_writePointers_1 : decode cX1_writePointers 1 = .ok (.istore 4, 2) := dk_54 4 (dk_at dksX1_writePointers_0 1 rfl rfl)
theorem dX1_writePointers_3 : decode cX1_writePointers 3 = .ok (.iload 4, 2) := dk_21 4 (dk_at dksX1_writePointers_0 3 rfl rfl)
theorem dX1_writePointers_5 : decode cX1_writePointers 5 = .ok (.bipush 12, 2) := dk_16 12 (dk_at dksX1_writePointers_0 5 rfl rfl)
theorem dX1_writePointers_7 : decode cX1_writePointers 7 = .ok (.if_icmp .ge 42, 3) := dk_162 0 42 (dk_at dksX1_writePointers_0 7 rfl rfl)
theorem dX1_writePointers_10 : decode cX1_writePointers 10 = .ok (.aload_n 2, 1) := dk_44 (dk_at dksX1_writePointers_0 10 rfl rfl)
theorem dX1_writePointers_11 : decode cX1_writePointers 11 = .ok (.iload 4, 2) := dk_21 4 (dk_at dksX1_writePointers_0 11 rfl rfl)
theorem dX1_writePointers_13 : decode cX1_writePointers 13 = .ok (.iaload, 1) := dk_46 (dk_at dksX1_writePointers_0 13 rfl rfl)
theorem dX1_writePointers_14 : decode cX1_writePointers 14 = .ok (.aload_n 3, 1) := dk_45 (dk_at dksX1_writePointers_0 14 rfl rfl)
theorem dX1_writePointers_15 : decode cX1_writePointers 15 = .ok (.iload 4, 2) := dk_21 4 (dk_at dksX1_writePointers_0 15 rfl rfl)
theorem dX1_writePointers_17 : decode cX1_writePointers 17 = .ok (.iaload, 1) := dk_46 (dk_at dksX1_writePointers_0 17 rfl rfl)
theorem dX1_writePointers_18 : decode cX1_writePointers 18 = .ok (.if_icmp .eq 25, 3) := dk_159 0 25 (dk_at dksX1_writePointers_0 18 rfl rfl)
theorem dX1_writePointers_21 : decode cX1_writePointers 21 = .ok (.aload_n 0, 1) := dk_42 (dk_at dksX1_writePointers_0 21 rfl rfl)
theorem dX1_writePointers_22 : decode cX1_writePointers 22 = .ok (.aload_n 1, 1) := dk_43 (dk_at dksX1_writePointers_0 22 rfl rfl)
theorem dX1_writePointers_23 : decode cX1_writePointers 23 = .ok (.invokevirtual 296, 3) := dk_182 1 40 (dk_at dksX1_writePointers_1 0 rfl rfl)
theorem dX1_writePointers_26 : decode cX1_writePointers 26 = .ok (.iload 4, 2) := dk_21 4 (dk_at dksX1_writePointers_1 3 rfl rfl)
theorem dX1_writePointers_28 : decode cX1_writePointers 28 = .ok (.invokevirtual 305, 3) := dk_182 1 49 (dk_at dksX1_writePointers_1 5 rfl rfl)
theorem dX1_writePointers_31 : decode cX1_writePointers 31 = .ok (.pop, 1) := dk_87 (dk_at dksX1_writePointers_1 8 rfl rfl)
theorem dX1_writePointers_32 : decode cX1_writePointers 32 = .ok (.aload_n 0, 1) := dk_42 (dk_at dksX1_writePointers_1 9 rfl rfl)
theorem dX1_writePointers_33 : decode cX1_writePointers 33 = .ok (.ldc_w 308, 3) := dk_19 1 52 (dk_at dksX1_writePointers_1 10 rfl rfl)
theorem dX1_writePointers_36 : decode cX1_writePointers 36 = .ok (.aload_n 2, 1) := dk_44 (dk_at dksX1_writePointers_1 13 rfl rfl)
theorem dX1_writePointers_37 : decode cX1_writePointers 37 = .ok (.iload 4, 2) := dk_21 4 (dk_at dksX1_writePointers_1 14 rfl rfl)
theorem dX1_writePointers_39 : decode cX1_writePointers 39 = .ok (.iaload, 1) := dk_46 (dk_at dksX1_writePointers_1 16 rfl rfl)
theorem dX1_writePointers_40 : decode cX1_writePointers 40 = .ok (.invokestatic 310, 3) := dk_184 1 54 (dk_at dksX1_writePointers_1 17 rfl rfl)
theorem dX1_writePointers_43 : decode cX1_writePointers 43 = .ok (.iinc 4 1, 3) := dk_132 4 1 (dk_at dksX1_writePointers_1 20 rfl rfl)
theorem dX1_writePointers_46 : decode cX1_writePointers 46 = .ok (.goto (-43), 3) := dk_167 255 213 (dk_at dksX1_writePointers_2 0 rfl rfl)
theorem dX1_writePointers_49 : decode cX1_writePointers 49 = .ok (.return_, 1) := dk_177 (dk_at dksX1_writePointers_2 3 rfl rfl)
abbrev cX1_append : ByteArray := prog_1_method_12_code
def yX1_append : MethodName := ⟨RX1, "append", "(IIIII)I"⟩
def dkwX1_append_6 : List UInt8 := [180, 0, 93, 172]
abbrev dktX1_append_6 : List UInt8 := dkwX1_append_6 ++ []
def dkwX1_append_5 : List UInt8 := [21, 8, 184, 0, 89, 145, 84, 42, 89, 180, 0, 93, 4, 96, 181, 0, 93, 132, 8, 1, 167, 255, 209, 42]
abbrev dktX1_append_5 : List UInt8 := dkwX1_append_5 ++ dktX1_append_6
def dkwX1_append_4 : List UInt8 := [162, 0, 46, 25, 6, 21, 8, 184, 0, 89, 153, 0, 30, 42, 180, 0, 13, 42, 180, 0, 93, 25, 6]
abbrev dktX1_append_4 : List UInt8 := dkwX1_append_4 ++ dktX1_append_5
def dkwX1_append_3 : List UInt8 := [21, 7, 96, 17, 1, 244, 163, 0, 7, 4, 167, 0, 4, 3, 184, 0, 96, 3, 54, 8, 21, 8, 16, 20]
abbrev dktX1_append_3 : List UInt8 := dkwX1_append_3 ++ dktX1_append_4
def dkwX1_append_2 : List UInt8 := [184, 0, 89, 153, 0, 7, 4, 167, 0, 4, 3, 96, 54, 7, 132, 8, 1, 167, 255, 226, 42, 180, 0, 93]
abbrev dktX1_append_2 : List UInt8 := dkwX1_append_2 ++ dktX1_append_3
def dkwX1_append_1 : List UInt8 := [79, 58, 6, 3, 54, 7, 3, 54, 8, 21, 8, 16, 20, 162, 0, 29, 21, 7, 25, 6, 21, 8]
abbrev dktX1_append_1 : List UInt8 := dkwX1_append_1 ++ dktX1_append_2
def dkwX1_append_0 : List UInt8 := [8, 188, 10, 89, 3, 27, 79, 89, 4, 28, 79, 89, 5, 29, 79, 89, 6, 21, 4, 79, 89, 7, 21, 5]
abbrev dktX1_append_0 : List UInt8 := dkwX1_append_0 ++ dktX1_append_1
theorem dksX1_append_0 : cX1_append.data.toList.drop 0 = dktX1_append_0 := by decide +kernel
theorem dksX1_append_1 : cX1_append.data.toList.drop 24 = dktX1_append_1 := dk_seg dksX1_append_0 24 rfl rfl
theorem dksX1_append_2 : cX1_append.data.toList.drop 46 = dktX1_append_2 := dk_seg dksX1_append_1 22 rfl rfl
theorem dksX1_append_3 : cX1_append.data.toList.drop 70 = dktX1_append_3 := dk_seg dksX1_append_2 24 rfl rfl
theorem dksX1_append_4 : cX1_append.data.toList.drop 94 = dktX1_append_4 := dk_seg dksX1_append_3 24 rfl rfl
theorem dksX1_append_5 : cX1_append.data.toList.drop 117 = dktX1_append_5 := dk_seg dksX1_append_4 23 rfl rfl
theorem dksX1_append_6 : cX1_append.data.toList.drop 141 = dktX1_append_6 := dk_seg dksX1_append_5 24 rfl rfl
theorem dX1_append_0 : decode cX1_append 0 = .ok (.iconst 5, 1) := dk_8 (dk_at dksX1_append_0 0 rfl rfl)
theorem dX1_append_1 : decode cX1_append 1 = .ok (.newarray .int, 2) := dk_188_10 (dk_at dksX1_append_0 1 rfl rfl)
theorem dX1_append_3 : decode cX1_append 3 = .ok (.dup, 1) := dk_89 (dk_at dksX1_append_0 3 rfl rfl)
theorem dX1_append_4 : decode cX1_append 4 = .ok (.iconst 0, 1) := dk_3 (dk_at dksX1_append_0 4 rfl rfl)
theorem dX1_append_5 : decode cX1_append 5 = .ok (.iload_n 1, 1) := dk_27 (dk_at dksX1_append_0 5 rfl rfl)
theorem dX1_append_6 : decode cX1_append 6 = .ok (.iastore, 1) := dk_79 (dk_at dksX1_append_0 6 rfl rfl)
theorem dX1_append_7 : decode cX1_append 7 = .ok (.dup, 1) := dk_89 (dk_at dksX1_append_0 7 rfl rfl)
theorem dX1_append_8 : decode cX1_append 8 = .ok (.iconst 1, 1) := dk_4 (dk_at dksX1_append_0 8 rfl rfl)
theorem dX1_append_9 : decode cX1_append 9 = .ok (.iload_n 2, 1) := dk_28 (dk_at dksX1_append_0 9 rfl rfl)
theorem dX1_append_10 : decode cX1_append 10 = .ok (.iastore, 1) := dk_79 (dk_at dksX1_append_0 10 rfl rfl)
theorem dX1_append_11 : decode cX1_append 11 = .ok (.dup, 1) := dk_89 (dk_at dksX1_append_0 11 rfl rfl)
theorem dX1_append_12 : decode cX1_append 12 = .ok (.iconst 2, 1) := dk_5 (dk_at dksX1_append_0 12 rfl rfl)
theorem dX1_append_13 : decode cX1_append 13 = .ok (.iload_n 3, 1) := dk_29 (dk_at dksX1_append_0 13 rfl rfl)
theorem dX1_append_14 : decode cX1_append 14 = .ok (.iastore, 1) := dk_79 (dk_at dksX1_append_0 14 rfl rfl)
theorem dX1_append_15 : decode cX1_append 15 = .ok (.dup, 1) := dk_89 (dk_at dksX1_append_0 15 rfl rfl)
theorem dX1_append_16 : decode cX1_append 16 = .ok (.iconst 3, 1) := dk_6 (dk_at dksX1_append_0 16 rfl rfl)
theorem dX1_append_17 : decode cX1_append 17 = .ok (.iload 4, 2) := dk_21 4 (dk_at dksX1_append_0 17 rfl rfl)
theorem dX1_append_19 : decode cX1_append 19 = .ok (.iastore, 1) := dk_79 (dk_at dksX1_append_0 19 rfl rfl)
theorem dX1_append_20 : decode cX1_append 20 = .ok (.dup, 1) := dk_89 (dk_at dksX1_append_0 20 rfl rfl)
theorem dX1_append_21 : decode cX1_append 21 = .ok (.iconst 4, 1) := dk_7 (dk_at dksX1_append_0 21 rfl rfl)
theorem dX1_append_22 : decode cX1_append 22 = .ok (.iload 5, 2) := dk_21 5 (dk_at dksX1_append_0 22 rfl rfl)
theorem dX1_append_24 : decode cX1_append 24 = .ok (.iastore, 1) := dk_79 (dk_at dksX1_append_1 0 rfl rfl)
theorem dX1_append_25 : decode cX1_append 25 = .ok (.astore 6, 2) := dk_58 6 (dk_at dksX1_append_1 1 rfl rfl)
theorem dX1_append_27 : decode cX1_append 27 = .ok (.iconst 0, 1) := dk_3 (dk_at dksX1_append_1 3 rfl rfl)
theorem dX1_append_28 : decode cX1_append 28 = .ok (.istore 7, 2) := dk_54 7 (dk_at dksX1_append_1 4 rfl rfl)
theorem dX1_append_30 : decode cX1_append 30 = .ok (.iconst 0, 1) := dk_3 (dk_at dksX1_append_1 6 rfl rfl)
theorem dX1_append_31 : decode cX1_append 31 = .ok (.istore 8, 2) := dk_54 8 (dk_at dksX1_append_1 7 rfl rfl)
theorem dX1_append_33 : decode cX1_append 33 = .ok (.iload 8, 2) := dk_21 8 (dk_at dksX1_append_1 9 rfl rfl)
theorem dX1_append_35 : decode cX1_append 35 = .ok (.bipush 20, 2) := dk_16 20 (dk_at dksX1_append_1 11 rfl rfl)
theorem dX1_append_37 : decode cX1_append 37 = .ok (.if_icmp .ge 29, 3) := dk_162 0 29 (dk_at dksX1_append_1 13 rfl rfl)
theorem dX1_append_40 : decode cX1_append 40 = .ok (.iload 7, 2) := dk_21 7 (dk_at dksX1_append_1 16 rfl rfl)
theorem dX1_append_42 : decode cX1_append 42 = .ok (.aload 6, 2) := dk_25 6 (dk_at dksX1_append_1 18 rfl rfl)
theorem dX1_append_44 : decode cX1_append 44 = .ok (.iload 8, 2) := dk_21 8 (dk_at dksX1_append_1 20 rfl rfl)
theorem dX1_append_46 : decode cX1_append 46 = .ok (.invokestatic 89, 3) := dk_184 0 89 (dk_at dksX1_append_2 0 rfl rfl)
theorem dX1_append_49 : decode cX1_append 49 = .ok (.ifCond .eq 7, 3) := dk_153 0 7 (dk_at dksX1_append_2 3 rfl rfl)
theorem dX1_append_52 : decode cX1_append 52 = .ok (.iconst 1, 1) := dk_4 (dk_at dksX1_append_2 6 rfl rfl)
theorem dX1_append_53 : decode cX1_append 53 = .ok (.goto 4, 3) := dk_167 0 4 (dk_at dksX1_append_2 7 rfl rfl)
theorem dX1_append_56 : decode cX1_append 56 = .ok (.iconst 0, 1) := dk_3 (dk_at dksX1_append_2 10 rfl rfl)
theorem dX1_append_57 : decode cX1_append 57 = .ok (.iadd, 1) := dk_96 (dk_at dksX1_append_2 11 rfl rfl)
theorem dX1_append_58 : decode cX1_append 58 = .ok (.istore 7, 2) := dk_54 7 (dk_at dksX1_append_2 12 rfl rfl)
theorem dX1_append_60 : decode cX1_append 60 = .ok (.iinc 8 1, 3) := dk_132 8 1 (dk_at dksX1_append_2 14 rfl rfl)
theorem dX1_append_63 : decode cX1_append 63 = .ok (.goto (-30), 3) := dk_167 255 226 (dk_at dksX1_append_2 17 rfl rfl)
theorem dX1_append_66 : decode cX1_append 66 = .ok (.aload_n 0, 1) := dk_42 (dk_at dksX1_append_2 20 rfl rfl)
theorem dX1_append_67 : decode cX1_append 67 = .ok (.getfield 93, 3) := dk_180 0 93 (dk_at dksX1_append_2 21 rfl rfl)
theorem dX1_append_70 : decode cX1_append 70 = .ok (.iload 7, 2) := dk_21 7 (dk_at dksX1_append_3 0 rfl rfl)
theorem dX1_append_72 : decode cX1_append 72 = .ok (.iadd, 1) := dk_96 (dk_at dksX1_append_3 2 rfl rfl)
theorem dX1_append_73 : decode cX1_append 73 = .ok (.sipush 500, 3) := dk_17 1 244 (dk_at dksX1_append_3 3 rfl rfl)
theorem dX1_append_76 : decode cX1_append 76 = .ok (.if_icmp .gt 7, 3) := dk_163 0 7 (dk_at dksX1_append_3 6 rfl rfl)
theorem dX1_append_79 : decode cX1_append 79 = .ok (.iconst 1, 1) := dk_4 (dk_at dksX1_append_3 9 rfl rfl)
theorem dX1_append_80 : decode cX1_append 80 = .ok (.goto 4, 3) := dk_167 0 4 (dk_at dksX1_append_3 10 rfl rfl)
theorem dX1_append_83 : decode cX1_append 83 = .ok (.iconst 0, 1) := dk_3 (dk_at dksX1_append_3 13 rfl rfl)
theorem dX1_append_84 : decode cX1_append 84 = .ok (.invokestatic 96, 3) := dk_184 0 96 (dk_at dksX1_append_3 14 rfl rfl)
theorem dX1_append_87 : decode cX1_append 87 = .ok (.iconst 0, 1) := dk_3 (dk_at dksX1_append_3 17 rfl rfl)
theorem dX1_append_88 : decode cX1_append 88 = .ok (.istore 8, 2) := dk_54 8 (dk_at dksX1_append_3 18 rfl rfl)
theorem dX1_append_90 : decode cX1_append 90 = .ok (.iload 8, 2) := dk_21 8 (dk_at dksX1_append_3 20 rfl rfl)
theorem dX1_append_92 : decode cX1_append 92 = .ok (.bipush 20, 2) := dk_16 20 (dk_at dksX1_append_3 22 rfl rfl)
theorem dX1_append_94 : decode cX1_append 94 = .ok (.if_icmp .ge 46, 3) := dk_162 0 46 (dk_at dksX1_append_4 0 rfl rfl)
theorem dX1_append_97 : decode cX1_append 97 = .ok (.aload 6, 2) := dk_25 6 (dk_at dksX1_append_4 3 rfl rfl)
theorem dX1_append_99 : decode cX1_append 99 = .ok (.iload 8, 2) := dk_21 8 (dk_at dksX1_append_4 5 rfl rfl)
theorem dX1_append_101 : decode cX1_append 101 = .ok (.invokestatic 89, 3) := dk_184 0 89 (dk_at dksX1_append_4 7 rfl rfl)
theorem dX1_append_104 : decode cX1_append 104 = .ok (.ifCond .eq 30, 3) := dk_153 0 30 (dk_at dksX1_append_4 10 rfl rfl)
theorem dX1_append_107 : decode cX1_append 107 = .ok (.aload_n 0, 1) := dk_42 (dk_at dksX1_append_4 13 rfl rfl)
theorem dX1_append_108 : decode cX1_append 108 = .ok (.getfield 13, 3) := dk_180 0 13 (dk_at dksX1_append_4 14 rfl rfl)
theorem dX1_append_111 : decode cX1_append 111 = .ok (.aload_n 0, 1) := dk_42 (dk_at dksX1_append_4 17 rfl rfl)
theorem dX1_append_112 : decode cX1_append 112 = .ok (.getfield 93, 3) := dk_180 0 93 (dk_at dksX1_append_4 18 rfl rfl)
theorem dX1_append_115 : decode cX1_append 115 = .ok (.aload 6, 2) := dk_25 6 (dk_at dksX1_append_4 21 rfl rfl)
theorem dX1_append_117 : decode cX1_append 117 = .ok (.iload 8, 2) := dk_21 8 (dk_at dksX1_append_5 0 rfl rfl)
theorem dX1_append_119 : decode cX1_append 119 = .ok (.invokestatic 89, 3) := dk_184 0 89 (dk_at dksX1_append_5 2 rfl rfl)
theorem dX1_append_122 : decode cX1_append 122 = .ok (.i2b, 1) := dk_145 (dk_at dksX1_append_5 5 rfl rfl)
theorem dX1_append_123 : decode cX1_append 123 = .ok (.bastore, 1) := dk_84 (dk_at dksX1_append_5 6 rfl rfl)
theorem dX1_append_124 : decode cX1_append 124 = .ok (.aload_n 0, 1) := dk_42 (dk_at dksX1_append_5 7 rfl rfl)
theorem dX1_append_125 : decode cX1_append 125 = .ok (.dup, 1) := dk_89 (dk_at dksX1_append_5 8 rfl rfl)
theorem dX1_append_126 : decode cX1_append 126 = .ok (.getfield 93, 3) := dk_180 0 93 (dk_at dksX1_append_5 9 rfl rfl)
theorem dX1_append_129 : decode cX1_append 129 = .ok (.iconst 1, 1) := dk_4 (dk_at dksX1_append_5 12 rfl rfl)
theorem dX1_append_130 : decode cX1_append 130 = .ok (.iadd, 1) := dk_96 (dk_at dksX1_append_5 13 rfl rfl)
theorem dX1_append_131 : decode cX1_append 131 = .ok (.putfield 93, 3) := dk_181 0 93 (dk_at dksX1_append_5 14 rfl rfl)
theorem dX1_append_134 : decode cX1_append 134 = .ok (.iinc 8 1, 3) := dk_132 8 1 (dk_at dksX1_append_5 17 rfl rfl)
theorem dX1_append_137 : decode cX1_append 137 = .ok (.goto (-47), 3) := dk_167 255 209 (dk_at dksX1_append_5 20 rfl rfl)
theorem dX1_append_140 : decode cX1_append 140 = .ok (.aload_n 0, 1) := dk_42 (dk_at dksX1_append_5 23 rfl rfl)
theorem dX1_append_141 : decode cX1_append 141 = .ok (.getfield 93, 3) := dk_180 0 93 (dk_at dksX1_append_6 0 rfl rfl)
theorem dX1_append_144 : decode cX1_append 144 = .ok (.ireturn, 1) := dk_172 (dk_at dksX1_append_6 3 rfl rfl)
abbrev cX1_byteOf : ByteArray := prog_1_method_11_code
def yX1_byteOf : MethodName := ⟨RX1, "byteOf", "([II)I"⟩
def dkwX1_byteOf_0 : List UInt8 := [42, 27, 7, 108, 46, 16, 24, 27, 7, 112, 16, 8, 104, 100, 124, 17, 0, 255, 126, 172]
abbrev dktX1_byteOf_0 : List UInt8 := dkwX1_byteOf_0 ++ []
theorem dksX1_byteOf_0 : cX1_byteOf.data.toList.drop 0 = dktX1_byteOf_0 := by decide +kernel
theorem dX1_byteOf_0 : decode cX1_byteOf 0 = .ok (.aload_n 0, 1) := dk_42 (dk_at dksX1_byteOf_0 0 rfl rfl)
theorem dX1_byteOf_1 : decode cX1_byteOf 1 = .ok (.iload_n 1, 1) := dk_27 (dk_at dksX1_byteOf_0 1 rfl rfl)
theorem dX1_byteOf_2 : decode cX1_byteOf 2 = .ok (.iconst 4, 1) := dk_7 (dk_at dksX1_byteOf_0 2 rfl rfl)
theorem dX1_byteOf_3 : decode cX1_byteOf 3 = .ok (.idiv, 1) := dk_108 (dk_at dksX1_byteOf_0 3 rfl rfl)
theorem dX1_byteOf_4 : decode cX1_byteOf 4 = .ok (.iaload, 1) := dk_46 (dk_at dksX1_byteOf_0 4 rfl rfl)
theorem dX1_byteOf_5 : decode cX1_byteOf 5 = .ok (.bipush 24, 2) := dk_16 24 (dk_at dksX1_byteOf_0 5 rfl rfl)
theorem dX1_byteOf_7 : decode cX1_byteOf 7 = .ok (.iload_n 1, 1) := dk_27 (dk_at dksX1_byteOf_0 7 rfl rfl)
theorem dX1_byteOf_8 : decode cX1_byteOf 8 = .ok (.iconst 4, 1) := dk_7 (dk_at dksX1_byteOf_0 8 rfl rfl)
theorem dX1_byteOf_9 : decode cX1_byteOf 9 = .ok (.irem, 1) := dk_112 (dk_at dksX1_byteOf_0 9 rfl rfl)
theorem dX1_byteOf_10 : decode cX1_byteOf 10 = .ok (.bipush 8, 2) := dk_16 8 (dk_at dksX1_byteOf_0 10 rfl rfl)
theorem dX1_byteOf_12 : decode cX1_byteOf 12 = .ok (.imul, 1) := dk_104 (dk_at dksX1_byteOf_0 12 rfl rfl)
theorem dX1_byteOf_13 : decode cX1_byteOf 13 = .ok (.isub, 1) := dk_100 (dk_at dksX1_byteOf_0 13 rfl rfl)
theorem dX1_byteOf_14 : decode cX1_byteOf 14 = .ok (.iushr, 1) := dk_124 (dk_at dksX1_byteOf_0 14 rfl rfl)
theorem dX1_byteOf_15 : decode cX1_byteOf 15 = .ok (.sipush 255, 3) := dk_17 0 255 (dk_at dksX1_byteOf_0 15 rfl rfl)
theorem dX1_byteOf_18 : decode cX1_byteOf 18 = .ok (.iand, 1) := dk_126 (dk_at dksX1_byteOf_0 18 rfl rfl)
theorem dX1_byteOf_19 : decode cX1_byteOf 19 = .ok (.ireturn, 1) := dk_172 (dk_at dksX1_byteOf_0 19 rfl rfl)
abbrev cX1_checkState : ByteArray := prog_1_method_5_code
def yX1_checkState : MethodName := ⟨RX1, "checkState", "(Z)V"⟩
def dkwX1_checkState_0 : List UInt8 := [26, 154, 0, 11, 187, 0, 59, 89, 183, 0, 61, 191, 177]
abbrev dktX1_checkState_0 : List UInt8 := dkwX1_checkState_0 ++ []
theorem dksX1_checkState_0 : cX1_checkState.data.toList.drop 0 = dktX1_checkState_0 := by decide +kernel
theorem dX1_checkState_0 : decode cX1_checkState 0 = .ok (.iload_n 0, 1) := dk_26 (dk_at dksX1_checkState_0 0 rfl rfl)
theorem dX1_checkState_1 : decode cX1_checkState 1 = .ok (.ifCond .ne 11, 3) := dk_154 0 11 (dk_at dksX1_checkState_0 1 rfl rfl)
theorem dX1_checkState_4 : decode cX1_checkState 4 = .ok (.new 59, 3) := dk_187 0 59 (dk_at dksX1_checkState_0 4 rfl rfl)
theorem dX1_checkState_7 : decode cX1_checkState 7 = .ok (.dup, 1) := dk_89 (dk_at dksX1_checkState_0 7 rfl rfl)
theorem dX1_checkState_8 : decode cX1_checkState 8 = .ok (.invokespecial 61, 3) := dk_183 0 61 (dk_at dksX1_checkState_0 8 rfl rfl)
theorem dX1_checkState_11 : decode cX1_checkState 11 = .ok (.athrow, 1) := dk_191 (dk_at dksX1_checkState_0 11 rfl rfl)
theorem dX1_checkState_12 : decode cX1_checkState 12 = .ok (.return_, 1) := dk_177 (dk_at dksX1_checkState_0 12 rfl rfl)
abbrev cX1_truncate : ByteArray := prog_1_method_13_code
def yX1_truncate : MethodName := ⟨RX1, "truncate", "(I)I"⟩
def dkwX1_truncate_0 : List UInt8 := [27, 3, 42, 180, 0, 93, 184, 0, 3, 184, 0, 99, 42, 27, 181, 0, 93, 27, 172]
abbrev dktX1_truncate_0 : List UInt8 := dkwX1_truncate_0 ++ []
theorem dksX1_truncate_0 : cX1_truncate.data.toList.drop 0 = dktX1_truncate_0 := by decide +kernel
theorem dX1_truncate_0 : decode cX1_truncate 0 = .ok (.iload_n 1, 1) := dk_27 (dk_at dksX1_truncate_0 0 rfl rfl)
theorem dX1_truncate_1 : decode cX1_truncate 1 = .ok (.iconst 0, 1) := dk_3 (dk_at dksX1_truncate_0 1 rfl rfl)
theorem dX1_truncate_2 : decode cX1_truncate 2 = .ok (.aload_n 0, 1) := dk_42 (dk_at dksX1_truncate_0 2 rfl rfl)
theorem dX1_truncate_3 : decode cX1_truncate 3 = .ok (.getfield 93, 3) := dk_180 0 93 (dk_at dksX1_truncate_0 3 rfl rfl)
theorem dX1_truncate_6 : decode cX1_truncate 6 = .ok (.invokestatic 3, 3) := dk_184 0 3 (dk_at dksX1_truncate_0 6 rfl rfl)
theorem dX1_truncate_9 : decode cX1_truncate 9 = .ok (.invokestatic 99, 3) := dk_184 0 99 (dk_at dksX1_truncate_0 9 rfl rfl)
theorem dX1_truncate_12 : decode cX1_truncate 12 = .ok (.aload_n 0, 1) := dk_42 (dk_at dksX1_truncate_0 12 rfl rfl)
theorem dX1_truncate_13 : decode cX1_truncate 13 = .ok (.iload_n 1, 1) := dk_27 (dk_at dksX1_truncate_0 13 rfl rfl)
theorem dX1_truncate_14 : decode cX1_truncate 14 = .ok (.putfield 93, 3) := dk_181 0 93 (dk_at dksX1_truncate_0 14 rfl rfl)
theorem dX1_truncate_17 : decode cX1_truncate 17 = .ok (.iload_n 1, 1) := dk_27 (dk_at dksX1_truncate_0 17 rfl rfl)
theorem dX1_truncate_18 : decode cX1_truncate 18 = .ok (.ireturn, 1) := dk_172 (dk_at dksX1_truncate_0 18 rfl rfl)
abbrev cX1_checkArgument : ByteArray := prog_1_method_4_code
def yX1_checkArgument : MethodName := ⟨RX1, "checkArgument", "(Z)V"⟩
def dkwX1_checkArgument_0 : List UInt8 := [26, 154, 0, 11, 187, 0, 56, 89, 183, 0, 58, 191, 177]
abbrev dktX1_checkArgument_0 : List UInt8 := dkwX1_checkArgument_0 ++ []
theorem dksX1_checkArgument_0 : cX1_checkArgument.data.toList.drop 0 = dktX1_checkArgument_0 := by decide +kernel
theorem dX1_checkArgument_0 : decode cX1_checkArgument 0 = .ok (.iload_n 0, 1) := dk_26 (dk_at dksX1_checkArgument_0 0 rfl rfl)
theorem dX1_checkArgument_1 : decode cX1_checkArgument 1 = .ok (.ifCond .ne 11, 3) := dk_154 0 11 (dk_at dksX1_checkArgument_0 1 rfl rfl)
theorem dX1_checkArgument_4 : decode cX1_checkArgument 4 = .ok (.new 56, 3) := dk_187 0 56 (dk_at dksX1_checkArgument_0 4 rfl rfl)
theorem dX1_checkArgument_7 : decode cX1_checkArgument 7 = .ok (.dup, 1) := dk_89 (dk_at dksX1_checkArgument_0 7 rfl rfl)
theorem dX1_checkArgument_8 : decode cX1_checkArgument 8 = .ok (.invokespecial 58, 3) := dk_183 0 58 (dk_at dksX1_checkArgument_0 8 rfl rfl)
theorem dX1_checkArgument_11 : decode cX1_checkArgument 11 = .ok (.athrow, 1) := dk_191 (dk_at dksX1_checkArgument_0 11 rfl rfl)
theorem dX1_checkArgument_12 : decode cX1_checkArgument 12 = .ok (.return_, 1) := dk_177 (dk_at dksX1_checkArgument_0 12 rfl rfl)
abbrev cX1_load : ByteArray := prog_1_method_15_code
def yX1_load : MethodName := ⟨RX1, "load", "()I"⟩
def dkwX1_load_1 : List UInt8 := [167, 0, 12, 76, 187, 0, 59, 89, 183, 0, 61, 191, 42, 180, 0, 20, 182, 0, 115, 172]
abbrev dktX1_load_1 : List UInt8 := dkwX1_load_1 ++ []
def dkwX1_load_0 : List UInt8 := [42, 187, 0, 102, 89, 42, 180, 0, 13, 42, 180, 0, 93, 183, 0, 104, 182, 0, 107, 182, 0, 85]
abbrev dktX1_load_0 : List UInt8 := dkwX1_load_0 ++ dktX1_load_1
theorem dksX1_load_0 : cX1_load.data.toList.drop 0 = dktX1_load_0 := by decide +kernel
theorem dksX1_load_1 : cX1_load.data.toList.drop 22 = dktX1_load_1 := dk_seg dksX1_load_0 22 rfl rfl
theorem dX1_load_0 : decode cX1_load 0 = .ok (.aload_n 0, 1) := dk_42 (dk_at dksX1_load_0 0 rfl rfl)
theorem dX1_load_1 : decode cX1_load 1 = .ok (.new 102, 3) := dk_187 0 102 (dk_at dksX1_load_0 1 rfl rfl)
theorem dX1_load_4 : decode cX1_load 4 = .ok (.dup, 1) := dk_89 (dk_at dksX1_load_0 4 rfl rfl)
theorem dX1_load_5 : decode cX1_load 5 = .ok (.aload_n 0, 1) := dk_42 (dk_at dksX1_load_0 5 rfl rfl)
theorem dX1_load_6 : decode cX1_load 6 = .ok (.getfield 13, 3) := dk_180 0 13 (dk_at dksX1_load_0 6 rfl rfl)
theorem dX1_load_9 : decode cX1_load 9 = .ok (.aload_n 0, 1) := dk_42 (dk_at dksX1_load_0 9 rfl rfl)
theorem dX1_load_10 : decode cX1_load 10 = .ok (.getfield 93, 3) := dk_180 0 93 (dk_at dksX1_load_0 10 rfl rfl)
theorem dX1_load_13 : decode cX1_load 13 = .ok (.invokespecial 104, 3) := dk_183 0 104 (dk_at dksX1_load_0 13 rfl rfl)
theorem dX1_load_16 : decode cX1_load 16 = .ok (.invokevirtual 107, 3) := dk_182 0 107 (dk_at dksX1_load_0 16 rfl rfl)
theorem dX1_load_19 : decode cX1_load 19 = .ok (.invokevirtual 85, 3) := dk_182 0 85 (dk_at dksX1_load_0 19 rfl rfl)
theorem dX1_load_22 : decode cX1_load 22 = .ok (.goto 12, 3) := dk_167 0 12 (dk_at dksX1_load_1 0 rfl rfl)
theorem dX1_load_25 : decode cX1_load 25 = .ok (.astore_n 1, 1) := dk_76 (dk_at dksX1_load_1 3 rfl rfl)
theorem dX1_load_26 : decode cX1_load 26 = .ok (.new 59, 3) := dk_187 0 59 (dk_at dksX1_load_1 4 rfl rfl)
theorem dX1_load_29 : decode cX1_load 29 = .ok (.dup, 1) := dk_89 (dk_at dksX1_load_1 7 rfl rfl)
theorem dX1_load_30 : decode cX1_load 30 = .ok (.invokespecial 61, 3) := dk_183 0 61 (dk_at dksX1_load_1 8 rfl rfl)
theorem dX1_load_33 : decode cX1_load 33 = .ok (.athrow, 1) := dk_191 (dk_at dksX1_load_1 11 rfl rfl)
theorem dX1_load_34 : decode cX1_load 34 = .ok (.aload_n 0, 1) := dk_42 (dk_at dksX1_load_1 12 rfl rfl)
theorem dX1_load_35 : decode cX1_load 35 = .ok (.getfield 20, 3) := dk_180 0 20 (dk_at dksX1_load_1 13 rfl rfl)
theorem dX1_load_38 : decode cX1_load 38 = .ok (.invokevirtual 115, 3) := dk_182 0 115 (dk_at dksX1_load_1 16 rfl rfl)
theorem dX1_load_41 : decode cX1_load 41 = .ok (.ireturn, 1) := dk_172 (dk_at dksX1_load_1 19 rfl rfl)
abbrev cX1_addInn : ByteArray := prog_1_method_16_code
def yX1_addInn : MethodName := ⟨RX1, "addInn", "(I)I"⟩
def dkwX1_addInn_3 : List UInt8 := [187, 0, 47, 89, 27, 4, 3, 183, 0, 49, 83, 45, 182, 0, 52, 54, 4, 28, 172]
abbrev dktX1_addInn_3 : List UInt8 := dkwX1_addInn_3 ++ []
def dkwX1_addInn_2 : List UInt8 := [182, 0, 125, 154, 0, 7, 4, 167, 0, 4, 3, 184, 0, 96, 42, 182, 0, 128, 78, 45, 180, 0, 43, 28]
abbrev dktX1_addInn_2 : List UInt8 := dkwX1_addInn_2 ++ dktX1_addInn_3
def dkwX1_addInn_1 : List UInt8 := [167, 0, 4, 3, 184, 0, 99, 42, 180, 0, 20, 182, 0, 122, 61, 28, 2, 159, 0, 17, 42, 180, 0, 20]
abbrev dktX1_addInn_1 : List UInt8 := dkwX1_addInn_1 ++ dktX1_addInn_2
def dkwX1_addInn_0 : List UInt8 := [27, 3, 17, 3, 231, 184, 0, 3, 153, 0, 19, 42, 180, 0, 20, 27, 182, 0, 118, 2, 160, 0, 7, 4]
abbrev dktX1_addInn_0 : List UInt8 := dkwX1_addInn_0 ++ dktX1_addInn_1
theorem dksX1_addInn_0 : cX1_addInn.data.toList.drop 0 = dktX1_addInn_0 := by decide +kernel
theorem dksX1_addInn_1 : cX1_addInn.data.toList.drop 24 = dktX1_addInn_1 := dk_seg dksX1_addInn_0 24 rfl rfl
theorem dksX1_addInn_2 : cX1_addInn.data.toList.drop 48 = dktX1_addInn_2 := dk_seg dksX1_addInn_1 24 rfl rfl
theorem dksX1_addInn_3 : cX1_addInn.data.toList.drop 72 = dktX1_addInn_3 := dk_seg dksX1_addInn_2 24 rfl rfl
theorem dX1_addInn_0 : decode cX1_addInn 0 = .ok (.iload_n 1, 1) := dk_27 (dk_at dksX1_addInn_0 0 rfl rfl)
theorem dX1_addInn_1 : decode cX1_addInn 1 = .ok (.iconst 0, 1) := dk_3 (dk_at dksX1_addInn_0 1 rfl rfl)
theorem dX1_addInn_2 : decode cX1_addInn 2 = .ok (.sipush 999, 3) := dk_17 3 231 (dk_at dksX1_addInn_0 2 rfl rfl)
theorem dX1_addInn_5 : decode cX1_addInn 5 = .ok (.invokestatic 3, 3) := dk_184 0 3 (dk_at dksX1_addInn_0 5 rfl rfl)
theorem dX1_addInn_8 : decode cX1_addInn 8 = .ok (.ifCond .eq 19, 3) := dk_153 0 19 (dk_at dksX1_addInn_0 8 rfl rfl)
theorem dX1_addInn_11 : decode cX1_addInn 11 = .ok (.aload_n 0, 1) := dk_42 (dk_at dksX1_addInn_0 11 rfl rfl)
theorem dX1_addInn_12 : decode cX1_addInn 12 = .ok (.getfield 20, 3) := dk_180 0 20 (dk_at dksX1_addInn_0 12 rfl rfl)
theorem dX1_addInn_15 : decode cX1_addInn 15 = .ok (.iload_n 1, 1) := dk_27 (dk_at dksX1_addInn_0 15 rfl rfl)
theorem dX1_addInn_16 : decode cX1_addInn 16 = .ok (.invokevirtual 118, 3) := dk_182 0 118 (dk_at dksX1_addInn_0 16 rfl rfl)
theorem dX1_addInn_19 : decode cX1_addInn 19 = .ok (.iconst (-1), 1) := dk_2 (dk_at dksX1_addInn_0 19 rfl rfl)
theorem dX1_addInn_20 : decode cX1_addInn 20 = .ok (.if_icmp .ne 7, 3) := dk_160 0 7 (dk_at dksX1_addInn_0 20 rfl rfl)
theorem dX1_addInn_23 : decode cX1_addInn 23 = .ok (.iconst 1, 1) := dk_4 (dk_at dksX1_addInn_0 23 rfl rfl)
theorem dX1_addInn_24 : decode cX1_addInn 24 = .ok (.goto 4, 3) := dk_167 0 4 (dk_at dksX1_addInn_1 0 rfl rfl)
theorem dX1_addInn_27 : decode cX1_addInn 27 = .ok (.iconst 0, 1) := dk_3 (dk_at dksX1_addInn_1 3 rfl rfl)
theorem dX1_addInn_28 : decode cX1_addInn 28 = .ok (.invokestatic 99, 3) := dk_184 0 99 (dk_at dksX1_addInn_1 4 rfl rfl)
theorem dX1_addInn_31 : decode cX1_addInn 31 = .ok (.aload_n 0, 1) := dk_42 (dk_at dksX1_addInn_1 7 rfl rfl)
theorem dX1_addInn_32 : decode cX1_addInn 32 = .ok (.getfield 20, 3) := dk_180 0 20 (dk_at dksX1_addInn_1 8 rfl rfl)
theorem dX1_addInn_35 : decode cX1_addInn 35 = .ok (.invokevirtual 122, 3) := dk_182 0 122 (dk_at dksX1_addInn_1 11 rfl rfl)
theorem dX1_addInn_38 : decode cX1_addInn 38 = .ok (.istore_n 2, 1) := dk_61 (dk_at dksX1_addInn_1 14 rfl rfl)
theorem dX1_addInn_39 : decode cX1_addInn 39 = .ok (.iload_n 2, 1) := dk_28 (dk_at dksX1_addInn_1 15 rfl rfl)
theorem dX1_addInn_40 : decode cX1_addInn 40 = .ok (.iconst (-1), 1) := dk_2 (dk_at dksX1_addInn_1 16 rfl rfl)
theorem dX1_addInn_41 : decode cX1_addInn 41 = .ok (.if_icmp .eq 17, 3) := dk_159 0 17 (dk_at dksX1_addInn_1 17 rfl rfl)
theorem dX1_addInn_44 : decode cX1_addInn 44 = .ok (.aload_n 0, 1) := dk_42 (dk_at dksX1_addInn_1 20 rfl rfl)
theorem dX1_addInn_45 : decode cX1_addInn 45 = .ok (.getfield 20, 3) := dk_180 0 20 (dk_at dksX1_addInn_1 21 rfl rfl)
theorem dX1_addInn_48 : decode cX1_addInn 48 = .ok (.invokevirtual 125, 3) := dk_182 0 125 (dk_at dksX1_addInn_2 0 rfl rfl)
theorem dX1_addInn_51 : decode cX1_addInn 51 = .ok (.ifCond .ne 7, 3) := dk_154 0 7 (dk_at dksX1_addInn_2 3 rfl rfl)
theorem dX1_addInn_54 : decode cX1_addInn 54 = .ok (.iconst 1, 1) := dk_4 (dk_at dksX1_addInn_2 6 rfl rfl)
theorem dX1_addInn_55 : decode cX1_addInn 55 = .ok (.goto 4, 3) := dk_167 0 4 (dk_at dksX1_addInn_2 7 rfl rfl)
theorem dX1_addInn_58 : decode cX1_addInn 58 = .ok (.iconst 0, 1) := dk_3 (dk_at dksX1_addInn_2 10 rfl rfl)
theorem dX1_addInn_59 : decode cX1_addInn 59 = .ok (.invokestatic 96, 3) := dk_184 0 96 (dk_at dksX1_addInn_2 11 rfl rfl)
theorem dX1_addInn_62 : decode cX1_addInn 62 = .ok (.aload_n 0, 1) := dk_42 (dk_at dksX1_addInn_2 14 rfl rfl)
theorem dX1_addInn_63 : decode cX1_addInn 63 = .ok (.invokevirtual 128, 3) := dk_182 0 128 (dk_at dksX1_addInn_2 15 rfl rfl)
theorem dX1_addInn_66 : decode cX1_addInn 66 = .ok (.astore_n 3, 1) := dk_78 (dk_at dksX1_addInn_2 18 rfl rfl)
theorem dX1_addInn_67 : decode cX1_addInn 67 = .ok (.aload_n 3, 1) := dk_45 (dk_at dksX1_addInn_2 19 rfl rfl)
theorem dX1_addInn_68 : decode cX1_addInn 68 = .ok (.getfield 43, 3) := dk_180 0 43 (dk_at dksX1_addInn_2 20 rfl rfl)
theorem dX1_addInn_71 : decode cX1_addInn 71 = .ok (.iload_n 2, 1) := dk_28 (dk_at dksX1_addInn_2 23 rfl rfl)
theorem dX1_addInn_72 : decode cX1_addInn 72 = .ok (.new 47, 3) := dk_187 0 47 (dk_at dksX1_addInn_3 0 rfl rfl)
theorem dX1_addInn_75 : decode cX1_addInn 75 = .ok (.dup, 1) := dk_89 (dk_at dksX1_addInn_3 3 rfl rfl)
theorem dX1_addInn_76 : decode cX1_addInn 76 = .ok (.iload_n 1, 1) := dk_27 (dk_at dksX1_addInn_3 4 rfl rfl)
theorem dX1_addInn_77 : decode cX1_addInn 77 = .ok (.iconst 1, 1) := dk_4 (dk_at dksX1_addInn_3 5 rfl rfl)
theorem dX1_addInn_78 : decode cX1_addInn 78 = .ok (.iconst 0, 1) := dk_3 (dk_at dksX1_addInn_3 6 rfl rfl)
theorem dX1_addInn_79 : decode cX1_addInn 79 = .ok (.invokespecial 49, 3) := dk_183 0 49 (dk_at dksX1_addInn_3 7 rfl rfl)
theorem dX1_addInn_82 : decode cX1_addInn 82 = .ok (.aastore, 1) := dk_83 (dk_at dksX1_addInn_3 10 rfl rfl)
theorem dX1_addInn_83 : decode cX1_addInn 83 = .ok (.aload_n 3, 1) := dk_45 (dk_at dksX1_addInn_3 11 rfl rfl)
theorem dX1_addInn_84 : decode cX1_addInn 84 = .ok (.invokevirtual 52, 3) := dk_182 0 52 (dk_at dksX1_addInn_3 12 rfl rfl)
theorem dX1_addInn_87 : decode cX1_addInn 87 = .ok (.istore 4, 2) := dk_54 4 (dk_at dksX1_addInn_3 15 rfl rfl)
theorem dX1_addInn_89 : decode cX1_addInn 89 = .ok (.iload_n 2, 1) := dk_28 (dk_at dksX1_addInn_3 17 rfl rfl)
theorem dX1_addInn_90 : decode cX1_addInn 90 = .ok (.ireturn, 1) := dk_172 (dk_at dksX1_addInn_3 18 rfl rfl)
abbrev cX1_removeInn : ByteArray := prog_1_method_17_code
def yX1_removeInn : MethodName := ⟨RX1, "removeInn", "(I)I"⟩
def dkwX1_removeInn_1 : List UInt8 := [42, 182, 0, 128, 78, 45, 180, 0, 43, 27, 1, 83, 45, 182, 0, 52, 54, 4, 44, 180, 0, 131, 172]
abbrev dktX1_removeInn_1 : List UInt8 := dkwX1_removeInn_1 ++ []
def dkwX1_removeInn_0 : List UInt8 := [42, 27, 182, 0, 73, 77, 42, 180, 0, 20, 182, 0, 125, 154, 0, 7, 4, 167, 0, 4, 3, 184, 0, 96]
abbrev dktX1_removeInn_0 : List UInt8 := dkwX1_removeInn_0 ++ dktX1_removeInn_1
theorem dksX1_removeInn_0 : cX1_removeInn.data.toList.drop 0 = dktX1_removeInn_0 := by decide +kernel
theorem dksX1_removeInn_1 : cX1_removeInn.data.toList.drop 24 = dktX1_removeInn_1 := dk_seg dksX1_removeInn_0 24 rfl rfl
theorem dX1_removeInn_0 : decode cX1_removeInn 0 = .ok (.aload_n 0, 1) := dk_42 (dk_at dksX1_removeInn_0 0 rfl rfl)
theorem dX1_removeInn_1 : decode cX1_removeInn 1 = .ok (.iload_n 1, 1) := dk_27 (dk_at dksX1_removeInn_0 1 rfl rfl)
theorem dX1_removeInn_2 : decode cX1_removeInn 2 = .ok (.invokevirtual 73, 3) := dk_182 0 73 (dk_at dksX1_removeInn_0 2 rfl rfl)
theorem dX1_removeInn_5 : decode cX1_removeInn 5 = .ok (.astore_n 2, 1) := dk_77 (dk_at dksX1_removeInn_0 5 rfl rfl)
theorem dX1_removeInn_6 : decode cX1_removeInn 6 = .ok (.aload_n 0, 1) := dk_42 (dk_at dksX1_removeInn_0 6 rfl rfl)
theorem dX1_removeInn_7 : decode cX1_removeInn 7 = .ok (.getfield 20, 3) := dk_180 0 20 (dk_at dksX1_removeInn_0 7 rfl rfl)
theorem dX1_removeInn_10 : decode cX1_removeInn 10 = .ok (.invokevirtual 125, 3) := dk_182 0 125 (dk_at dksX1_removeInn_0 10 rfl rfl)
theorem dX1_removeInn_13 : decode cX1_removeInn 13 = .ok (.ifCond .ne 7, 3) := dk_154 0 7 (dk_at dksX1_removeInn_0 13 rfl rfl)
theorem dX1_removeInn_16 : decode cX1_removeInn 16 = .ok (.iconst 1, 1) := dk_4 (dk_at dksX1_removeInn_0 16 rfl rfl)
theorem dX1_removeInn_17 : decode cX1_removeInn 17 = .ok (.goto 4, 3) := dk_167 0 4 (dk_at dksX1_removeInn_0 17 rfl rfl)
theorem dX1_removeInn_20 : decode cX1_removeInn 20 = .ok (.iconst 0, 1) := dk_3 (dk_at dksX1_removeInn_0 20 rfl rfl)
theorem dX1_removeInn_21 : decode cX1_removeInn 21 = .ok (.invokestatic 96, 3) := dk_184 0 96 (dk_at dksX1_removeInn_0 21 rfl rfl)
theorem dX1_removeInn_24 : decode cX1_removeInn 24 = .ok (.aload_n 0, 1) := dk_42 (dk_at dksX1_removeInn_1 0 rfl rfl)
theorem dX1_removeInn_25 : decode cX1_removeInn 25 = .ok (.invokevirtual 128, 3) := dk_182 0 128 (dk_at dksX1_removeInn_1 1 rfl rfl)
theorem dX1_removeInn_28 : decode cX1_removeInn 28 = .ok (.astore_n 3, 1) := dk_78 (dk_at dksX1_removeInn_1 4 rfl rfl)
theorem dX1_removeInn_29 : decode cX1_removeInn 29 = .ok (.aload_n 3, 1) := dk_45 (dk_at dksX1_removeInn_1 5 rfl rfl)
theorem dX1_removeInn_30 : decode cX1_removeInn 30 = .ok (.getfield 43, 3) := dk_180 0 43 (dk_at dksX1_removeInn_1 6 rfl rfl)
theorem dX1_removeInn_33 : decode cX1_removeInn 33 = .ok (.iload_n 1, 1) := dk_27 (dk_at dksX1_removeInn_1 9 rfl rfl)
theorem dX1_removeInn_34 : decode cX1_removeInn 34 = .ok (.aconst_null, 1) := dk_1 (dk_at dksX1_removeInn_1 10 rfl rfl)
theorem dX1_removeInn_35 : decode cX1_removeInn 35 = .ok (.aastore, 1) := dk_83 (dk_at dksX1_removeInn_1 11 rfl rfl)
theorem dX1_removeInn_36 : decode cX1_removeInn 36 = .ok (.aload_n 3, 1) := dk_45 (dk_at dksX1_removeInn_1 12 rfl rfl)
theorem dX1_removeInn_37 : decode cX1_removeInn 37 = .ok (.invokevirtual 52, 3) := dk_182 0 52 (dk_at dksX1_removeInn_1 13 rfl rfl)
theorem dX1_removeInn_40 : decode cX1_removeInn 40 = .ok (.istore 4, 2) := dk_54 4 (dk_at dksX1_removeInn_1 16 rfl rfl)
theorem dX1_removeInn_42 : decode cX1_removeInn 42 = .ok (.aload_n 2, 1) := dk_44 (dk_at dksX1_removeInn_1 18 rfl rfl)
theorem dX1_removeInn_43 : decode cX1_removeInn 43 = .ok (.getfield 131, 3) := dk_180 0 131 (dk_at dksX1_removeInn_1 19 rfl rfl)
theorem dX1_removeInn_46 : decode cX1_removeInn 46 = .ok (.ireturn, 1) := dk_172 (dk_at dksX1_removeInn_1 22 rfl rfl)
abbrev cX1_inn : ByteArray := prog_1_method_7_code
def yX1_inn : MethodName := ⟨RX1, "inn", "(I)LInnRoad$Inn;"⟩
def dkwX1_inn_1 : List UInt8 := [167, 0, 4, 3, 184, 0, 69, 42, 180, 0, 20, 180, 0, 43, 27, 50, 176]
abbrev dktX1_inn_1 : List UInt8 := dkwX1_inn_1 ++ []
def dkwX1_inn_0 : List UInt8 := [27, 3, 16, 11, 184, 0, 3, 153, 0, 18, 42, 180, 0, 20, 27, 182, 0, 65, 153, 0, 7, 4]
abbrev dktX1_inn_0 : List UInt8 := dkwX1_inn_0 ++ dktX1_inn_1
theorem dksX1_inn_0 : cX1_inn.data.toList.drop 0 = dktX1_inn_0 := by decide +kernel
theorem dksX1_inn_1 : cX1_inn.data.toList.drop 22 = dktX1_inn_1 := dk_seg dksX1_inn_0 22 rfl rfl
theorem dX1_inn_0 : decode cX1_inn 0 = .ok (.iload_n 1, 1) := dk_27 (dk_at dksX1_inn_0 0 rfl rfl)
theorem dX1_inn_1 : decode cX1_inn 1 = .ok (.iconst 0, 1) := dk_3 (dk_at dksX1_inn_0 1 rfl rfl)
theorem dX1_inn_2 : decode cX1_inn 2 = .ok (.bipush 11, 2) := dk_16 11 (dk_at dksX1_inn_0 2 rfl rfl)
theorem dX1_inn_4 : decode cX1_inn 4 = .ok (.invokestatic 3, 3) := dk_184 0 3 (dk_at dksX1_inn_0 4 rfl rfl)
theorem dX1_inn_7 : decode cX1_inn 7 = .ok (.ifCond .eq 18, 3) := dk_153 0 18 (dk_at dksX1_inn_0 7 rfl rfl)
theorem dX1_inn_10 : decode cX1_inn 10 = .ok (.aload_n 0, 1) := dk_42 (dk_at dksX1_inn_0 10 rfl rfl)
theorem dX1_inn_11 : decode cX1_inn 11 = .ok (.getfield 20, 3) := dk_180 0 20 (dk_at dksX1_inn_0 11 rfl rfl)
theorem dX1_inn_14 : decode cX1_inn 14 = .ok (.iload_n 1, 1) := dk_27 (dk_at dksX1_inn_0 14 rfl rfl)
theorem dX1_inn_15 : decode cX1_inn 15 = .ok (.invokevirtual 65, 3) := dk_182 0 65 (dk_at dksX1_inn_0 15 rfl rfl)
theorem dX1_inn_18 : decode cX1_inn 18 = .ok (.ifCond .eq 7, 3) := dk_153 0 7 (dk_at dksX1_inn_0 18 rfl rfl)
theorem dX1_inn_21 : decode cX1_inn 21 = .ok (.iconst 1, 1) := dk_4 (dk_at dksX1_inn_0 21 rfl rfl)
theorem dX1_inn_22 : decode cX1_inn 22 = .ok (.goto 4, 3) := dk_167 0 4 (dk_at dksX1_inn_1 0 rfl rfl)
theorem dX1_inn_25 : decode cX1_inn 25 = .ok (.iconst 0, 1) := dk_3 (dk_at dksX1_inn_1 3 rfl rfl)
theorem dX1_inn_26 : decode cX1_inn 26 = .ok (.invokestatic 69, 3) := dk_184 0 69 (dk_at dksX1_inn_1 4 rfl rfl)
theorem dX1_inn_29 : decode cX1_inn 29 = .ok (.aload_n 0, 1) := dk_42 (dk_at dksX1_inn_1 7 rfl rfl)
theorem dX1_inn_30 : decode cX1_inn 30 = .ok (.getfield 20, 3) := dk_180 0 20 (dk_at dksX1_inn_1 8 rfl rfl)
theorem dX1_inn_33 : decode cX1_inn 33 = .ok (.getfield 43, 3) := dk_180 0 43 (dk_at dksX1_inn_1 11 rfl rfl)
theorem dX1_inn_36 : decode cX1_inn 36 = .ok (.iload_n 1, 1) := dk_27 (dk_at dksX1_inn_1 14 rfl rfl)
theorem dX1_inn_37 : decode cX1_inn 37 = .ok (.aaload, 1) := dk_50 (dk_at dksX1_inn_1 15 rfl rfl)
theorem dX1_inn_38 : decode cX1_inn 38 = .ok (.areturn, 1) := dk_176 (dk_at dksX1_inn_1 16 rfl rfl)
abbrev cX1_checkIndex : ByteArray := prog_1_method_6_code
def yX1_checkIndex : MethodName := ⟨RX1, "checkIndex", "(Z)V"⟩
def dkwX1_checkIndex_0 : List UInt8 := [26, 154, 0, 11, 187, 0, 62, 89, 183, 0, 64, 191, 177]
abbrev dktX1_checkIndex_0 : List UInt8 := dkwX1_checkIndex_0 ++ []
theorem dksX1_checkIndex_0 : cX1_checkIndex.data.toList.drop 0 = dktX1_checkIndex_0 := by decide +kernel
theorem dX1_checkIndex_0 : decode cX1_checkIndex 0 = .ok (.iload_n 0, 1) := dk_26 (dk_at dksX1_checkIndex_0 0 rfl rfl)
theorem dX1_checkIndex_1 : decode cX1_checkIndex 1 = .ok (.ifCond .ne 11, 3) := dk_154 0 11 (dk_at dksX1_checkIndex_0 1 rfl rfl)
theorem dX1_checkIndex_4 : decode cX1_checkIndex 4 = .ok (.new 62, 3) := dk_187 0 62 (dk_at dksX1_checkIndex_0 4 rfl rfl)
theorem dX1_checkIndex_7 : decode cX1_checkIndex 7 = .ok (.dup, 1) := dk_89 (dk_at dksX1_checkIndex_0 7 rfl rfl)
theorem dX1_checkIndex_8 : decode cX1_checkIndex 8 = .ok (.invokespecial 64, 3) := dk_183 0 64 (dk_at dksX1_checkIndex_0 8 rfl rfl)
theorem dX1_checkIndex_11 : decode cX1_checkIndex 11 = .ok (.athrow, 1) := dk_191 (dk_at dksX1_checkIndex_0 11 rfl rfl)
theorem dX1_checkIndex_12 : decode cX1_checkIndex 12 = .ok (.return_, 1) := dk_177 (dk_at dksX1_checkIndex_0 12 rfl rfl)
abbrev cX1_openInn : ByteArray := prog_1_method_19_code
def yX1_openInn : MethodName := ⟨RX1, "openInn", "(I)Z"⟩
def dkwX1_openInn_0 : List UInt8 := [42, 27, 4, 182, 0, 142, 172]
abbrev dktX1_openInn_0 : List UInt8 := dkwX1_openInn_0 ++ []
theorem dksX1_openInn_0 : cX1_openInn.data.toList.drop 0 = dktX1_openInn_0 := by decide +kernel
theorem dX1_openInn_0 : decode cX1_openInn 0 = .ok (.aload_n 0, 1) := dk_42 (dk_at dksX1_openInn_0 0 rfl rfl)
theorem dX1_openInn_1 : decode cX1_openInn 1 = .ok (.iload_n 1, 1) := dk_27 (dk_at dksX1_openInn_0 1 rfl rfl)
theorem dX1_openInn_2 : decode cX1_openInn 2 = .ok (.iconst 1, 1) := dk_4 (dk_at dksX1_openInn_0 2 rfl rfl)
theorem dX1_openInn_3 : decode cX1_openInn 3 = .ok (.invokevirtual 142, 3) := dk_182 0 142 (dk_at dksX1_openInn_0 3 rfl rfl)
theorem dX1_openInn_6 : decode cX1_openInn 6 = .ok (.ireturn, 1) := dk_172 (dk_at dksX1_openInn_0 6 rfl rfl)
abbrev cX1_setOpen : ByteArray := prog_1_method_18_code
def yX1_setOpen : MethodName := ⟨RX1, "setOpen", "(IZ)Z"⟩
def dkwX1_setOpen_1 : List UInt8 := [172]
abbrev dktX1_setOpen_1 : List UInt8 := dkwX1_setOpen_1 ++ []
def dkwX1_setOpen_0 : List UInt8 := [42, 27, 182, 0, 73, 78, 42, 182, 0, 128, 180, 0, 43, 27, 45, 28, 182, 0, 134, 83, 45, 180, 0, 138]
abbrev dktX1_setOpen_0 : List UInt8 := dkwX1_setOpen_0 ++ dktX1_setOpen_1
theorem dksX1_setOpen_0 : cX1_setOpen.data.toList.drop 0 = dktX1_setOpen_0 := by decide +kernel
theorem dksX1_setOpen_1 : cX1_setOpen.data.toList.drop 24 = dktX1_setOpen_1 := dk_seg dksX1_setOpen_0 24 rfl rfl
theorem dX1_setOpen_0 : decode cX1_setOpen 0 = .ok (.aload_n 0, 1) := dk_42 (dk_at dksX1_setOpen_0 0 rfl rfl)
theorem dX1_setOpen_1 : decode cX1_setOpen 1 = .ok (.iload_n 1, 1) := dk_27 (dk_at dksX1_setOpen_0 1 rfl rfl)
theorem dX1_setOpen_2 : decode cX1_setOpen 2 = .ok (.invokevirtual 73, 3) := dk_182 0 73 (dk_at dksX1_setOpen_0 2 rfl rfl)
theorem dX1_setOpen_5 : decode cX1_setOpen 5 = .ok (.astore_n 3, 1) := dk_78 (dk_at dksX1_setOpen_0 5 rfl rfl)
theorem dX1_setOpen_6 : decode cX1_setOpen 6 = .ok (.aload_n 0, 1) := dk_42 (dk_at dksX1_setOpen_0 6 rfl rfl)
theorem dX1_setOpen_7 : decode cX1_setOpen 7 = .ok (.invokevirtual 128, 3) := dk_182 0 128 (dk_at dksX1_setOpen_0 7 rfl rfl)
theorem dX1_setOpen_10 : decode cX1_setOpen 10 = .ok (.getfield 43, 3) := dk_180 0 43 (dk_at dksX1_setOpen_0 10 rfl rfl)
theorem dX1_setOpen_13 : decode cX1_setOpen 13 = .ok (.iload_n 1, 1) := dk_27 (dk_at dksX1_setOpen_0 13 rfl rfl)
theorem dX1_setOpen_14 : decode cX1_setOpen 14 = .ok (.aload_n 3, 1) := dk_45 (dk_at dksX1_setOpen_0 14 rfl rfl)
theorem dX1_setOpen_15 : decode cX1_setOpen 15 = .ok (.iload_n 2, 1) := dk_28 (dk_at dksX1_setOpen_0 15 rfl rfl)
theorem dX1_setOpen_16 : decode cX1_setOpen 16 = .ok (.invokevirtual 134, 3) := dk_182 0 134 (dk_at dksX1_setOpen_0 16 rfl rfl)
theorem dX1_setOpen_19 : decode cX1_setOpen 19 = .ok (.aastore, 1) := dk_83 (dk_at dksX1_setOpen_0 19 rfl rfl)
theorem dX1_setOpen_20 : decode cX1_setOpen 20 = .ok (.aload_n 3, 1) := dk_45 (dk_at dksX1_setOpen_0 20 rfl rfl)
theorem dX1_setOpen_21 : decode cX1_setOpen 21 = .ok (.getfield 138, 3) := dk_180 0 138 (dk_at dksX1_setOpen_0 21 rfl rfl)
theorem dX1_setOpen_24 : decode cX1_setOpen 24 = .ok (.ireturn, 1) := dk_172 (dk_at dksX1_setOpen_1 0 rfl rfl)
abbrev cX1_closeInn : ByteArray := prog_1_method_20_code
def yX1_closeInn : MethodName := ⟨RX1, "closeInn", "(I)Z"⟩
def dkwX1_closeInn_0 : List UInt8 := [42, 27, 3, 182, 0, 142, 172]
abbrev dktX1_closeInn_0 : List UInt8 := dkwX1_closeInn_0 ++ []
theorem dksX1_closeInn_0 : cX1_closeInn.data.toList.drop 0 = dktX1_closeInn_0 := by decide +kernel
theorem dX1_closeInn_0 : decode cX1_closeInn 0 = .ok (.aload_n 0, 1) := dk_42 (dk_at dksX1_closeInn_0 0 rfl rfl)
theorem dX1_closeInn_1 : decode cX1_closeInn 1 = .ok (.iload_n 1, 1) := dk_27 (dk_at dksX1_closeInn_0 1 rfl rfl)
theorem dX1_closeInn_2 : decode cX1_closeInn 2 = .ok (.iconst 0, 1) := dk_3 (dk_at dksX1_closeInn_0 2 rfl rfl)
theorem dX1_closeInn_3 : decode cX1_closeInn 3 = .ok (.invokevirtual 142, 3) := dk_182 0 142 (dk_at dksX1_closeInn_0 3 rfl rfl)
theorem dX1_closeInn_6 : decode cX1_closeInn 6 = .ok (.ireturn, 1) := dk_172 (dk_at dksX1_closeInn_0 6 rfl rfl)
abbrev cX1_snow : ByteArray := prog_1_method_21_code
def yX1_snow : MethodName := ⟨RX1, "snow", "(II)I"⟩
def dkwX1_snow_4 : List UInt8 := [21, 5, 50, 3, 182, 0, 134, 83, 132, 5, 1, 167, 255, 197, 29, 25, 4, 182, 0, 146, 100, 172]
abbrev dktX1_snow_4 : List UInt8 := dkwX1_snow_4 ++ []
def dkwX1_snow_3 : List UInt8 := [50, 180, 0, 149, 27, 28, 184, 0, 3, 153, 0, 23, 25, 4, 180, 0, 43, 21, 5, 25, 4, 180, 0, 43]
abbrev dktX1_snow_3 : List UInt8 := dkwX1_snow_3 ++ dktX1_snow_4
def dkwX1_snow_2 : List UInt8 := [21, 5, 16, 12, 162, 0, 58, 25, 4, 21, 5, 182, 0, 65, 153, 0, 42, 25, 4, 180, 0, 43, 21, 5]
abbrev dktX1_snow_2 : List UInt8 := dkwX1_snow_2 ++ dktX1_snow_3
def dkwX1_snow_1 : List UInt8 := [167, 0, 4, 3, 184, 0, 99, 42, 180, 0, 20, 182, 0, 146, 62, 42, 182, 0, 128, 58, 4, 3, 54, 5]
abbrev dktX1_snow_1 : List UInt8 := dkwX1_snow_1 ++ dktX1_snow_2
def dkwX1_snow_0 : List UInt8 := [27, 3, 17, 3, 231, 184, 0, 3, 153, 0, 18, 28, 27, 17, 3, 231, 184, 0, 3, 153, 0, 7, 4]
abbrev dktX1_snow_0 : List UInt8 := dkwX1_snow_0 ++ dktX1_snow_1
theorem dksX1_snow_0 : cX1_snow.data.toList.drop 0 = dktX1_snow_0 := by decide +kernel
theorem dksX1_snow_1 : cX1_snow.data.toList.drop 23 = dktX1_snow_1 := dk_seg dksX1_snow_0 23 rfl rfl
theorem dksX1_snow_2 : cX1_snow.data.toList.drop 47 = dktX1_snow_2 := dk_seg dksX1_snow_1 24 rfl rfl
theorem dksX1_snow_3 : cX1_snow.data.toList.drop 71 = dktX1_snow_3 := dk_seg dksX1_snow_2 24 rfl rfl
theorem dksX1_snow_4 : cX1_snow.data.toList.drop 95 = dktX1_snow_4 := dk_seg dksX1_snow_3 24 rfl rfl
theorem dX1_snow_0 : decode cX1_snow 0 = .ok (.iload_n 1, 1) := dk_27 (dk_at dksX1_snow_0 0 rfl rfl)
theorem dX1_snow_1 : decode cX1_snow 1 = .ok (.iconst 0, 1) := dk_3 (dk_at dksX1_snow_0 1 rfl rfl)
theorem dX1_snow_2 : decode cX1_snow 2 = .ok (.sipush 999, 3) := dk_17 3 231 (dk_at dksX1_snow_0 2 rfl rfl)
theorem dX1_snow_5 : decode cX1_snow 5 = .ok (.invokestatic 3, 3) := dk_184 0 3 (dk_at dksX1_snow_0 5 rfl rfl)
theorem dX1_snow_8 : decode cX1_snow 8 = .ok (.ifCond .eq 18, 3) := dk_153 0 18 (dk_at dksX1_snow_0 8 rfl rfl)
theorem dX1_snow_11 : decode cX1_snow 11 = .ok (.iload_n 2, 1) := dk_28 (dk_at dksX1_snow_0 11 rfl rfl)
theorem dX1_snow_12 : decode cX1_snow 12 = .ok (.iload_n 1, 1) := dk_27 (dk_at dksX1_snow_0 12 rfl rfl)
theorem dX1_snow_13 : decode cX1_snow 13 = .ok (.sipush 999, 3) := dk_17 3 231 (dk_at dksX1_snow_0 13 rfl rfl)
theorem dX1_snow_16 : decode cX1_snow 16 = .ok (.invokestatic 3, 3) := dk_184 0 3 (dk_at dksX1_snow_0 16 rfl rfl)
theorem dX1_snow_19 : decode cX1_snow 19 = .ok (.ifCond .eq 7, 3) := dk_153 0 7 (dk_at dksX1_snow_0 19 rfl rfl)
theorem dX1_snow_22 : decode cX1_snow 22 = .ok (.iconst 1, 1) := dk_4 (dk_at dksX1_snow_0 22 rfl rfl)
theorem dX1_snow_23 : decode cX1_snow 23 = .ok (.goto 4, 3) := dk_167 0 4 (dk_at dksX1_snow_1 0 rfl rfl)
theorem dX1_snow_26 : decode cX1_snow 26 = .ok (.iconst 0, 1) := dk_3 (dk_at dksX1_snow_1 3 rfl rfl)
theorem dX1_snow_27 : decode cX1_snow 27 = .ok (.invokestatic 99, 3) := dk_184 0 99 (dk_at dksX1_snow_1 4 rfl rfl)
theorem dX1_snow_30 : decode cX1_snow 30 = .ok (.aload_n 0, 1) := dk_42 (dk_at dksX1_snow_1 7 rfl rfl)
theorem dX1_snow_31 : decode cX1_snow 31 = .ok (.getfield 20, 3) := dk_180 0 20 (dk_at dksX1_snow_1 8 rfl rfl)
theorem dX1_snow_34 : decode cX1_snow 34 = .ok (.invokevirtual 146, 3) := dk_182 0 146 (dk_at dksX1_snow_1 11 rfl rfl)
theorem dX1_snow_37 : decode cX1_snow 37 = .ok (.istore_n 3, 1) := dk_62 (dk_at dksX1_snow_1 14 rfl rfl)
theorem dX1_snow_38 : decode cX1_snow 38 = .ok (.aload_n 0, 1) := dk_42 (dk_at dksX1_snow_1 15 rfl rfl)
theorem dX1_snow_39 : decode cX1_snow 39 = .ok (.invokevirtual 128, 3) := dk_182 0 128 (dk_at dksX1_snow_1 16 rfl rfl)
theorem dX1_snow_42 : decode cX1_snow 42 = .ok (.astore 4, 2) := dk_58 4 (dk_at dksX1_snow_1 19 rfl rfl)
theorem dX1_snow_44 : decode cX1_snow 44 = .ok (.iconst 0, 1) := dk_3 (dk_at dksX1_snow_1 21 rfl rfl)
theorem dX1_snow_45 : decode cX1_snow 45 = .ok (.istore 5, 2) := dk_54 5 (dk_at dksX1_snow_1 22 rfl rfl)
theorem dX1_snow_47 : decode cX1_snow 47 = .ok (.iload 5, 2) := dk_21 5 (dk_at dksX1_snow_2 0 rfl rfl)
theorem dX1_snow_49 : decode cX1_snow 49 = .ok (.bipush 12, 2) := dk_16 12 (dk_at dksX1_snow_2 2 rfl rfl)
theorem dX1_snow_51 : decode cX1_snow 51 = .ok (.if_icmp .ge 58, 3) := dk_162 0 58 (dk_at dksX1_snow_2 4 rfl rfl)
theorem dX1_snow_54 : decode cX1_snow 54 = .ok (.aload 4, 2) := dk_25 4 (dk_at dksX1_snow_2 7 rfl rfl)
theorem dX1_snow_56 : decode cX1_snow 56 = .ok (.iload 5, 2) := dk_21 5 (dk_at dksX1_snow_2 9 rfl rfl)
theorem dX1_snow_58 : decode cX1_snow 58 = .ok (.invokevirtual 65, 3) := dk_182 0 65 (dk_at dksX1_snow_2 11 rfl rfl)
theorem dX1_snow_61 : decode cX1_snow 61 = .ok (.ifCond .eq 42, 3) := dk_153 0 42 (dk_at dksX1_snow_2 14 rfl rfl)
theorem dX1_snow_64 : decode cX1_snow 64 = .ok (.aload 4, 2) := dk_25 4 (dk_at dksX1_snow_2 17 rfl rfl)
theorem dX1_snow_66 : decode cX1_snow 66 = .ok (.getfield 43, 3) := dk_180 0 43 (dk_at dksX1_snow_2 19 rfl rfl)
theorem dX1_snow_69 : decode cX1_snow 69 = .ok (.iload 5, 2) := dk_21 5 (dk_at dksX1_snow_2 22 rfl rfl)
theorem dX1_snow_71 : decode cX1_snow 71 = .ok (.aaload, 1) := dk_50 (dk_at dksX1_snow_3 0 rfl rfl)
theorem dX1_snow_72 : decode cX1_snow 72 = .ok (.getfield 149, 3) := dk_180 0 149 (dk_at dksX1_snow_3 1 rfl rfl)
theorem dX1_snow_75 : decode cX1_snow 75 = .ok (.iload_n 1, 1) := dk_27 (dk_at dksX1_snow_3 4 rfl rfl)
theorem dX1_snow_76 : decode cX1_snow 76 = .ok (.iload_n 2, 1) := dk_28 (dk_at dksX1_snow_3 5 rfl rfl)
theorem dX1_snow_77 : decode cX1_snow 77 = .ok (.invokestatic 3, 3) := dk_184 0 3 (dk_at dksX1_snow_3 6 rfl rfl)
theorem dX1_snow_80 : decode cX1_snow 80 = .ok (.ifCond .eq 23, 3) := dk_153 0 23 (dk_at dksX1_snow_3 9 rfl rfl)
theorem dX1_snow_83 : decode cX1_snow 83 = .ok (.aload 4, 2) := dk_25 4 (dk_at dksX1_snow_3 12 rfl rfl)
theorem dX1_snow_85 : decode cX1_snow 85 = .ok (.getfield 43, 3) := dk_180 0 43 (dk_at dksX1_snow_3 14 rfl rfl)
theorem dX1_snow_88 : decode cX1_snow 88 = .ok (.iload 5, 2) := dk_21 5 (dk_at dksX1_snow_3 17 rfl rfl)
theorem dX1_snow_90 : decode cX1_snow 90 = .ok (.aload 4, 2) := dk_25 4 (dk_at dksX1_snow_3 19 rfl rfl)
theorem dX1_snow_92 : decode cX1_snow 92 = .ok (.getfield 43, 3) := dk_180 0 43 (dk_at dksX1_snow_3 21 rfl rfl)
theorem dX1_snow_95 : decode cX1_snow 95 = .ok (.iload 5, 2) := dk_21 5 (dk_at dksX1_snow_4 0 rfl rfl)
theorem dX1_snow_97 : decode cX1_snow 97 = .ok (.aaload, 1) := dk_50 (dk_at dksX1_snow_4 2 rfl rfl)
theorem dX1_snow_98 : decode cX1_snow 98 = .ok (.iconst 0, 1) := dk_3 (dk_at dksX1_snow_4 3 rfl rfl)
theorem dX1_snow_99 : decode cX1_snow 99 = .ok (.invokevirtual 134, 3) := dk_182 0 134 (dk_at dksX1_snow_4 4 rfl rfl)
theorem dX1_snow_102 : decode cX1_snow 102 = .ok (.aastore, 1) := dk_83 (dk_at dksX1_snow_4 7 rfl rfl)
theorem dX1_snow_103 : decode cX1_snow 103 = .ok (.iinc 5 1, 3) := dk_132 5 1 (dk_at dksX1_snow_4 8 rfl rfl)
theorem dX1_snow_106 : decode cX1_snow 106 = .ok (.goto (-59), 3) := dk_167 255 197 (dk_at dksX1_snow_4 11 rfl rfl)
theorem dX1_snow_109 : decode cX1_snow 109 = .ok (.iload_n 3, 1) := dk_29 (dk_at dksX1_snow_4 14 rfl rfl)
theorem dX1_snow_110 : decode cX1_snow 110 = .ok (.aload 4, 2) := dk_25 4 (dk_at dksX1_snow_4 15 rfl rfl)
theorem dX1_snow_112 : decode cX1_snow 112 = .ok (.invokevirtual 146, 3) := dk_182 0 146 (dk_at dksX1_snow_4 17 rfl rfl)
theorem dX1_snow_115 : decode cX1_snow 115 = .ok (.isub, 1) := dk_100 (dk_at dksX1_snow_4 20 rfl rfl)
theorem dX1_snow_116 : decode cX1_snow 116 = .ok (.ireturn, 1) := dk_172 (dk_at dksX1_snow_4 21 rfl rfl)
abbrev cX1_setRange : ByteArray := prog_1_method_23_code
def yX1_setRange : MethodName := ⟨RX1, "setRange", "(I)I"⟩
def dkwX1_setRange_1 : List UInt8 := [181, 0, 39, 28, 172]
abbrev dktX1_setRange_1 : List UInt8 := dkwX1_setRange_1 ++ []
def dkwX1_setRange_0 : List UInt8 := [27, 4, 17, 3, 231, 184, 0, 3, 184, 0, 99, 42, 180, 0, 20, 180, 0, 39, 61, 42, 182, 0, 128, 27]
abbrev dktX1_setRange_0 : List UInt8 := dkwX1_setRange_0 ++ dktX1_setRange_1
theorem dksX1_setRange_0 : cX1_setRange.data.toList.drop 0 = dktX1_setRange_0 := by decide +kernel
theorem dksX1_setRange_1 : cX1_setRange.data.toList.drop 24 = dktX1_setRange_1 := dk_seg dksX1_setRange_0 24 rfl rfl
theorem dX1_setRange_0 : decode cX1_setRange 0 = .ok (.iload_n 1, 1) := dk_27 (dk_at dksX1_setRange_0 0 rfl rfl)
theorem dX1_setRange_1 : decode cX1_setRange 1 = .ok (.iconst 1, 1) := dk_4 (dk_at dksX1_setRange_0 1 rfl rfl)
theorem dX1_setRange_2 : decode cX1_setRange 2 = .ok (.sipush 999, 3) := dk_17 3 231 (dk_at dksX1_setRange_0 2 rfl rfl)
theorem dX1_setRange_5 : decode cX1_setRange 5 = .ok (.invokestatic 3, 3) := dk_184 0 3 (dk_at dksX1_setRange_0 5 rfl rfl)
theorem dX1_setRange_8 : decode cX1_setRange 8 = .ok (.invokestatic 99, 3) := dk_184 0 99 (dk_at dksX1_setRange_0 8 rfl rfl)
theorem dX1_setRange_11 : decode cX1_setRange 11 = .ok (.aload_n 0, 1) := dk_42 (dk_at dksX1_setRange_0 11 rfl rfl)
theorem dX1_setRange_12 : decode cX1_setRange 12 = .ok (.getfield 20, 3) := dk_180 0 20 (dk_at dksX1_setRange_0 12 rfl rfl)
theorem dX1_setRange_15 : decode cX1_setRange 15 = .ok (.getfield 39, 3) := dk_180 0 39 (dk_at dksX1_setRange_0 15 rfl rfl)
theorem dX1_setRange_18 : decode cX1_setRange 18 = .ok (.istore_n 2, 1) := dk_61 (dk_at dksX1_setRange_0 18 rfl rfl)
theorem dX1_setRange_19 : decode cX1_setRange 19 = .ok (.aload_n 0, 1) := dk_42 (dk_at dksX1_setRange_0 19 rfl rfl)
theorem dX1_setRange_20 : decode cX1_setRange 20 = .ok (.invokevirtual 128, 3) := dk_182 0 128 (dk_at dksX1_setRange_0 20 rfl rfl)
theorem dX1_setRange_23 : decode cX1_setRange 23 = .ok (.iload_n 1, 1) := dk_27 (dk_at dksX1_setRange_0 23 rfl rfl)
theorem dX1_setRange_24 : decode cX1_setRange 24 = .ok (.putfield 39, 3) := dk_181 0 39 (dk_at dksX1_setRange_1 0 rfl rfl)
theorem dX1_setRange_27 : decode cX1_setRange 27 = .ok (.iload_n 2, 1) := dk_28 (dk_at dksX1_setRange_1 3 rfl rfl)
theorem dX1_setRange_28 : decode cX1_setRange 28 = .ok (.ireturn, 1) := dk_172 (dk_at dksX1_setRange_1 4 rfl rfl)
abbrev cX1_setNext : ByteArray := prog_1_method_24_code
def yX1_setNext : MethodName := ⟨RX1, "setNext", "(II)I"⟩
def dkwX1_setNext_1 : List UInt8 := [46, 54, 4, 42, 182, 0, 128, 180, 0, 155, 180, 0, 159, 27, 28, 79, 21, 4, 172]
abbrev dktX1_setNext_1 : List UInt8 := dkwX1_setNext_1 ++ []
def dkwX1_setNext_0 : List UInt8 := [42, 27, 182, 0, 73, 78, 28, 184, 0, 152, 184, 0, 99, 42, 180, 0, 20, 180, 0, 155, 180, 0, 159, 27]
abbrev dktX1_setNext_0 : List UInt8 := dkwX1_setNext_0 ++ dktX1_setNext_1
theorem dksX1_setNext_0 : cX1_setNext.data.toList.drop 0 = dktX1_setNext_0 := by decide +kernel
theorem dksX1_setNext_1 : cX1_setNext.data.toList.drop 24 = dktX1_setNext_1 := dk_seg dksX1_setNext_0 24 rfl rfl
theorem dX1_setNext_0 : decode cX1_setNext 0 = .ok (.aload_n 0, 1) := dk_42 (dk_at dksX1_setNext_0 0 rfl rfl)
theorem dX1_setNext_1 : decode cX1_setNext 1 = .ok (.iload_n 1, 1) := dk_27 (dk_at dksX1_setNext_0 1 rfl rfl)
theorem dX1_setNext_2 : decode cX1_setNext 2 = .ok (.invokevirtual 73, 3) := dk_182 0 73 (dk_at dksX1_setNext_0 2 rfl rfl)
theorem dX1_setNext_5 : decode cX1_setNext 5 = .ok (.astore_n 3, 1) := dk_78 (dk_at dksX1_setNext_0 5 rfl rfl)
theorem dX1_setNext_6 : decode cX1_setNext 6 = .ok (.iload_n 2, 1) := dk_28 (dk_at dksX1_setNext_0 6 rfl rfl)
theorem dX1_setNext_7 : decode cX1_setNext 7 = .ok (.invokestatic 152, 3) := dk_184 0 152 (dk_at dksX1_setNext_0 7 rfl rfl)
theorem dX1_setNext_10 : decode cX1_setNext 10 = .ok (.invokestatic 99, 3) := dk_184 0 99 (dk_at dksX1_setNext_0 10 rfl rfl)
theorem dX1_setNext_13 : decode cX1_setNext 13 = .ok (.aload_n 0, 1) := dk_42 (dk_at dksX1_setNext_0 13 rfl rfl)
theorem dX1_setNext_14 : decode cX1_setNext 14 = .ok (.getfield 20, 3) := dk_180 0 20 (dk_at dksX1_setNext_0 14 rfl rfl)
theorem dX1_setNext_17 : decode cX1_setNext 17 = .ok (.getfield 155, 3) := dk_180 0 155 (dk_at dksX1_setNext_0 17 rfl rfl)
theorem dX1_setNext_20 : decode cX1_setNext 20 = .ok (.getfield 159, 3) := dk_180 0 159 (dk_at dksX1_setNext_0 20 rfl rfl)
theorem dX1_setNext_23 : decode cX1_setNext 23 = .ok (.iload_n 1, 1) := dk_27 (dk_at dksX1_setNext_0 23 rfl rfl)
theorem dX1_setNext_24 : decode cX1_setNext 24 = .ok (.iaload, 1) := dk_46 (dk_at dksX1_setNext_1 0 rfl rfl)
theorem dX1_setNext_25 : decode cX1_setNext 25 = .ok (.istore 4, 2) := dk_54 4 (dk_at dksX1_setNext_1 1 rfl rfl)
theorem dX1_setNext_27 : decode cX1_setNext 27 = .ok (.aload_n 0, 1) := dk_42 (dk_at dksX1_setNext_1 3 rfl rfl)
theorem dX1_setNext_28 : decode cX1_setNext 28 = .ok (.invokevirtual 128, 3) := dk_182 0 128 (dk_at dksX1_setNext_1 4 rfl rfl)
theorem dX1_setNext_31 : decode cX1_setNext 31 = .ok (.getfield 155, 3) := dk_180 0 155 (dk_at dksX1_setNext_1 7 rfl rfl)
theorem dX1_setNext_34 : decode cX1_setNext 34 = .ok (.getfield 159, 3) := dk_180 0 159 (dk_at dksX1_setNext_1 10 rfl rfl)
theorem dX1_setNext_37 : decode cX1_setNext 37 = .ok (.iload_n 1, 1) := dk_27 (dk_at dksX1_setNext_1 13 rfl rfl)
theorem dX1_setNext_38 : decode cX1_setNext 38 = .ok (.iload_n 2, 1) := dk_28 (dk_at dksX1_setNext_1 14 rfl rfl)
theorem dX1_setNext_39 : decode cX1_setNext 39 = .ok (.iastore, 1) := dk_79 (dk_at dksX1_setNext_1 15 rfl rfl)
theorem dX1_setNext_40 : decode cX1_setNext 40 = .ok (.iload 4, 2) := dk_21 4 (dk_at dksX1_setNext_1 16 rfl rfl)
theorem dX1_setNext_42 : decode cX1_setNext 42 = .ok (.ireturn, 1) := dk_172 (dk_at dksX1_setNext_1 18 rfl rfl)
abbrev cX1_isPointer : ByteArray := prog_1_method_2_code
def yX1_isPointer : MethodName := ⟨RX1, "isPointer", "(I)Z"⟩
def dkwX1_isPointer_0 : List UInt8 := [26, 2, 16, 11, 184, 0, 3, 172]
abbrev dktX1_isPointer_0 : List UInt8 := dkwX1_isPointer_0 ++ []
theorem dksX1_isPointer_0 : cX1_isPointer.data.toList.drop 0 = dktX1_isPointer_0 := by decide +kernel
theorem dX1_isPointer_0 : decode cX1_isPointer 0 = .ok (.iload_n 0, 1) := dk_26 (dk_at dksX1_isPointer_0 0 rfl rfl)
theorem dX1_isPointer_1 : decode cX1_isPointer 1 = .ok (.iconst (-1), 1) := dk_2 (dk_at dksX1_isPointer_0 1 rfl rfl)
theorem dX1_isPointer_2 : decode cX1_isPointer 2 = .ok (.bipush 11, 2) := dk_16 11 (dk_at dksX1_isPointer_0 2 rfl rfl)
theorem dX1_isPointer_4 : decode cX1_isPointer 4 = .ok (.invokestatic 3, 3) := dk_184 0 3 (dk_at dksX1_isPointer_0 4 rfl rfl)
theorem dX1_isPointer_7 : decode cX1_isPointer 7 = .ok (.ireturn, 1) := dk_172 (dk_at dksX1_isPointer_0 7 rfl rfl)
abbrev cX1_setSkip : ByteArray := prog_1_method_25_code
def yX1_setSkip : MethodName := ⟨RX1, "setSkip", "(II)I"⟩
def dkwX1_setSkip_1 : List UInt8 := [46, 54, 4, 42, 182, 0, 128, 180, 0, 155, 180, 0, 165, 27, 28, 79, 21, 4, 172]
abbrev dktX1_setSkip_1 : List UInt8 := dkwX1_setSkip_1 ++ []
def dkwX1_setSkip_0 : List UInt8 := [42, 27, 182, 0, 73, 78, 28, 184, 0, 152, 184, 0, 99, 42, 180, 0, 20, 180, 0, 155, 180, 0, 165, 27]
abbrev dktX1_setSkip_0 : List UInt8 := dkwX1_setSkip_0 ++ dktX1_setSkip_1
theorem dksX1_setSkip_0 : cX1_setSkip.data.toList.drop 0 = dktX1_setSkip_0 := by decide +kernel
theorem dksX1_setSkip_1 : cX1_setSkip.data.toList.drop 24 = dktX1_setSkip_1 := dk_seg dksX1_setSkip_0 24 rfl rfl
theorem dX1_setSkip_0 : decode cX1_setSkip 0 = .ok (.aload_n 0, 1) := dk_42 (dk_at dksX1_setSkip_0 0 rfl rfl)
theorem dX1_setSkip_1 : decode cX1_setSkip 1 = .ok (.iload_n 1, 1) := dk_27 (dk_at dksX1_setSkip_0 1 rfl rfl)
theorem dX1_setSkip_2 : decode cX1_setSkip 2 = .ok (.invokevirtual 73, 3) := dk_182 0 73 (dk_at dksX1_setSkip_0 2 rfl rfl)
theorem dX1_setSkip_5 : decode cX1_setSkip 5 = .ok (.astore_n 3, 1) := dk_78 (dk_at dksX1_setSkip_0 5 rfl rfl)
theorem dX1_setSkip_6 : decode cX1_setSkip 6 = .ok (.iload_n 2, 1) := dk_28 (dk_at dksX1_setSkip_0 6 rfl rfl)
theorem dX1_setSkip_7 : decode cX1_setSkip 7 = .ok (.invokestatic 152, 3) := dk_184 0 152 (dk_at dksX1_setSkip_0 7 rfl rfl)
theorem dX1_setSkip_10 : decode cX1_setSkip 10 = .ok (.invokestatic 99, 3) := dk_184 0 99 (dk_at dksX1_setSkip_0 10 rfl rfl)
theorem dX1_setSkip_13 : decode cX1_setSkip 13 = .ok (.aload_n 0, 1) := dk_42 (dk_at dksX1_setSkip_0 13 rfl rfl)
theorem dX1_setSkip_14 : decode cX1_setSkip 14 = .ok (.getfield 20, 3) := dk_180 0 20 (dk_at dksX1_setSkip_0 14 rfl rfl)
theorem dX1_setSkip_17 : decode cX1_setSkip 17 = .ok (.getfield 155, 3) := dk_180 0 155 (dk_at dksX1_setSkip_0 17 rfl rfl)
theorem dX1_setSkip_20 : decode cX1_setSkip 20 = .ok (.getfield 165, 3) := dk_180 0 165 (dk_at dksX1_setSkip_0 20 rfl rfl)
theorem dX1_setSkip_23 : decode cX1_setSkip 23 = .ok (.iload_n 1, 1) := dk_27 (dk_at dksX1_setSkip_0 23 rfl rfl)
theorem dX1_setSkip_24 : decode cX1_setSkip 24 = .ok (.iaload, 1) := dk_46 (dk_at dksX1_setSkip_1 0 rfl rfl)
theorem dX1_setSkip_25 : decode cX1_setSkip 25 = .ok (.istore 4, 2) := dk_54 4 (dk_at dksX1_setSkip_1 1 rfl rfl)
theorem dX1_setSkip_27 : decode cX1_setSkip 27 = .ok (.aload_n 0, 1) := dk_42 (dk_at dksX1_setSkip_1 3 rfl rfl)
theorem dX1_setSkip_28 : decode cX1_setSkip 28 = .ok (.invokevirtual 128, 3) := dk_182 0 128 (dk_at dksX1_setSkip_1 4 rfl rfl)
theorem dX1_setSkip_31 : decode cX1_setSkip 31 = .ok (.getfield 155, 3) := dk_180 0 155 (dk_at dksX1_setSkip_1 7 rfl rfl)
theorem dX1_setSkip_34 : decode cX1_setSkip 34 = .ok (.getfield 165, 3) := dk_180 0 165 (dk_at dksX1_setSkip_1 10 rfl rfl)
theorem dX1_setSkip_37 : decode cX1_setSkip 37 = .ok (.iload_n 1, 1) := dk_27 (dk_at dksX1_setSkip_1 13 rfl rfl)
theorem dX1_setSkip_38 : decode cX1_setSkip 38 = .ok (.iload_n 2, 1) := dk_28 (dk_at dksX1_setSkip_1 14 rfl rfl)
theorem dX1_setSkip_39 : decode cX1_setSkip 39 = .ok (.iastore, 1) := dk_79 (dk_at dksX1_setSkip_1 15 rfl rfl)
theorem dX1_setSkip_40 : decode cX1_setSkip 40 = .ok (.iload 4, 2) := dk_21 4 (dk_at dksX1_setSkip_1 16 rfl rfl)
theorem dX1_setSkip_42 : decode cX1_setSkip 42 = .ok (.ireturn, 1) := dk_172 (dk_at dksX1_setSkip_1 18 rfl rfl)
abbrev cX1_setFirst : ByteArray := prog_1_method_26_code
def yX1_setFirst : MethodName := ⟨RX1, "setFirst", "(I)I"⟩
def dkwX1_setFirst_1 : List UInt8 := [180, 0, 155, 27, 181, 0, 168, 28, 172]
abbrev dktX1_setFirst_1 : List UInt8 := dkwX1_setFirst_1 ++ []
def dkwX1_setFirst_0 : List UInt8 := [27, 184, 0, 152, 184, 0, 99, 42, 180, 0, 20, 180, 0, 155, 180, 0, 168, 61, 42, 182, 0, 128]
abbrev dktX1_setFirst_0 : List UInt8 := dkwX1_setFirst_0 ++ dktX1_setFirst_1
theorem dksX1_setFirst_0 : cX1_setFirst.data.toList.drop 0 = dktX1_setFirst_0 := by decide +kernel
theorem dksX1_setFirst_1 : cX1_setFirst.data.toList.drop 22 = dktX1_setFirst_1 := dk_seg dksX1_setFirst_0 22 rfl rfl
theorem dX1_setFirst_0 : decode cX1_setFirst 0 = .ok (.iload_n 1, 1) := dk_27 (dk_at dksX1_setFirst_0 0 rfl rfl)
theorem dX1_setFirst_1 : decode cX1_setFirst 1 = .ok (.invokestatic 152, 3) := dk_184 0 152 (dk_at dksX1_setFirst_0 1 rfl rfl)
theorem dX1_setFirst_4 : decode cX1_setFirst 4 = .ok (.invokestatic 99, 3) := dk_184 0 99 (dk_at dksX1_setFirst_0 4 rfl rfl)
theorem dX1_setFirst_7 : decode cX1_setFirst 7 = .ok (.aload_n 0, 1) := dk_42 (dk_at dksX1_setFirst_0 7 rfl rfl)
theorem dX1_setFirst_8 : decode cX1_setFirst 8 = .ok (.getfield 20, 3) := dk_180 0 20 (dk_at dksX1_setFirst_0 8 rfl rfl)
theorem dX1_setFirst_11 : decode cX1_setFirst 11 = .ok (.getfield 155, 3) := dk_180 0 155 (dk_at dksX1_setFirst_0 11 rfl rfl)
theorem dX1_setFirst_14 : decode cX1_setFirst 14 = .ok (.getfield 168, 3) := dk_180 0 168 (dk_at dksX1_setFirst_0 14 rfl rfl)
theorem dX1_setFirst_17 : decode cX1_setFirst 17 = .ok (.istore_n 2, 1) := dk_61 (dk_at dksX1_setFirst_0 17 rfl rfl)
theorem dX1_setFirst_18 : decode cX1_setFirst 18 = .ok (.aload_n 0, 1) := dk_42 (dk_at dksX1_setFirst_0 18 rfl rfl)
theorem dX1_setFirst_19 : decode cX1_setFirst 19 = .ok (.invokevirtual 128, 3) := dk_182 0 128 (dk_at dksX1_setFirst_0 19 rfl rfl)
theorem dX1_setFirst_22 : decode cX1_setFirst 22 = .ok (.getfield 155, 3) := dk_180 0 155 (dk_at dksX1_setFirst_1 0 rfl rfl)
theorem dX1_setFirst_25 : decode cX1_setFirst 25 = .ok (.iload_n 1, 1) := dk_27 (dk_at dksX1_setFirst_1 3 rfl rfl)
theorem dX1_setFirst_26 : decode cX1_setFirst 26 = .ok (.putfield 168, 3) := dk_181 0 168 (dk_at dksX1_setFirst_1 4 rfl rfl)
theorem dX1_setFirst_29 : decode cX1_setFirst 29 = .ok (.iload_n 2, 1) := dk_28 (dk_at dksX1_setFirst_1 7 rfl rfl)
theorem dX1_setFirst_30 : decode cX1_setFirst 30 = .ok (.ireturn, 1) := dk_172 (dk_at dksX1_setFirst_1 8 rfl rfl)
abbrev cX1_setSecond : ByteArray := prog_1_method_27_code
def yX1_setSecond : MethodName := ⟨RX1, "setSecond", "(I)I"⟩
def dkwX1_setSecond_1 : List UInt8 := [180, 0, 155, 27, 181, 0, 171, 28, 172]
abbrev dktX1_setSecond_1 : List UInt8 := dkwX1_setSecond_1 ++ []
def dkwX1_setSecond_0 : List UInt8 := [27, 184, 0, 152, 184, 0, 99, 42, 180, 0, 20, 180, 0, 155, 180, 0, 171, 61, 42, 182, 0, 128]
abbrev dktX1_setSecond_0 : List UInt8 := dkwX1_setSecond_0 ++ dktX1_setSecond_1
theorem dksX1_setSecond_0 : cX1_setSecond.data.toList.drop 0 = dktX1_setSecond_0 := by decide +kernel
theorem dksX1_setSecond_1 : cX1_setSecond.data.toList.drop 22 = dktX1_setSecond_1 := dk_seg dksX1_setSecond_0 22 rfl rfl
theorem dX1_setSecond_0 : decode cX1_setSecond 0 = .ok (.iload_n 1, 1) := dk_27 (dk_at dksX1_setSecond_0 0 rfl rfl)
theorem dX1_setSecond_1 : decode cX1_setSecond 1 = .ok (.invokestatic 152, 3) := dk_184 0 152 (dk_at dksX1_setSecond_0 1 rfl rfl)
theorem dX1_setSecond_4 : decode cX1_setSecond 4 = .ok (.invokestatic 99, 3) := dk_184 0 99 (dk_at dksX1_setSecond_0 4 rfl rfl)
theorem dX1_setSecond_7 : decode cX1_setSecond 7 = .ok (.aload_n 0, 1) := dk_42 (dk_at dksX1_setSecond_0 7 rfl rfl)
theorem dX1_setSecond_8 : decode cX1_setSecond 8 = .ok (.getfield 20, 3) := dk_180 0 20 (dk_at dksX1_setSecond_0 8 rfl rfl)
theorem dX1_setSecond_11 : decode cX1_setSecond 11 = .ok (.getfield 155, 3) := dk_180 0 155 (dk_at dksX1_setSecond_0 11 rfl rfl)
theorem dX1_setSecond_14 : decode cX1_setSecond 14 = .ok (.getfield 171, 3) := dk_180 0 171 (dk_at dksX1_setSecond_0 14 rfl rfl)
theorem dX1_setSecond_17 : decode cX1_setSecond 17 = .ok (.istore_n 2, 1) := dk_61 (dk_at dksX1_setSecond_0 17 rfl rfl)
theorem dX1_setSecond_18 : decode cX1_setSecond 18 = .ok (.aload_n 0, 1) := dk_42 (dk_at dksX1_setSecond_0 18 rfl rfl)
theorem dX1_setSecond_19 : decode cX1_setSecond 19 = .ok (.invokevirtual 128, 3) := dk_182 0 128 (dk_at dksX1_setSecond_0 19 rfl rfl)
theorem dX1_setSecond_22 : decode cX1_setSecond 22 = .ok (.getfield 155, 3) := dk_180 0 155 (dk_at dksX1_setSecond_1 0 rfl rfl)
theorem dX1_setSecond_25 : decode cX1_setSecond 25 = .ok (.iload_n 1, 1) := dk_27 (dk_at dksX1_setSecond_1 3 rfl rfl)
theorem dX1_setSecond_26 : decode cX1_setSecond 26 = .ok (.putfield 171, 3) := dk_181 0 171 (dk_at dksX1_setSecond_1 4 rfl rfl)
theorem dX1_setSecond_29 : decode cX1_setSecond 29 = .ok (.iload_n 2, 1) := dk_28 (dk_at dksX1_setSecond_1 7 rfl rfl)
theorem dX1_setSecond_30 : decode cX1_setSecond 30 = .ok (.ireturn, 1) := dk_172 (dk_at dksX1_setSecond_1 8 rfl rfl)
abbrev cX1_setStoredCount : ByteArray := prog_1_method_28_code
def yX1_setStoredCount : MethodName := ⟨RX1, "setStoredCount", "(I)I"⟩
def dkwX1_setStoredCount_1 : List UInt8 := [182, 0, 128, 180, 0, 155, 27, 181, 0, 174, 28, 172]
abbrev dktX1_setStoredCount_1 : List UInt8 := dkwX1_setStoredCount_1 ++ []
def dkwX1_setStoredCount_0 : List UInt8 := [27, 3, 16, 12, 184, 0, 3, 184, 0, 99, 42, 180, 0, 20, 180, 0, 155, 180, 0, 174, 61, 42]
abbrev dktX1_setStoredCount_0 : List UInt8 := dkwX1_setStoredCount_0 ++ dktX1_setStoredCount_1
theorem dksX1_setStoredCount_0 : cX1_setStoredCount.data.toList.drop 0 = dktX1_setStoredCount_0 := by decide +kernel
theorem dksX1_setStoredCount_1 : cX1_setStoredCount.data.toList.drop 22 = dktX1_setStoredCount_1 := dk_seg dksX1_setStoredCount_0 22 rfl rfl
theorem dX1_setStoredCount_0 : decode cX1_setStoredCount 0 = .ok (.iload_n 1, 1) := dk_27 (dk_at dksX1_setStoredCount_0 0 rfl rfl)
theorem dX1_setStoredCount_1 : decode cX1_setStoredCount 1 = .ok (.iconst 0, 1) := dk_3 (dk_at dksX1_setStoredCount_0 1 rfl rfl)
theorem dX1_setStoredCount_2 : decode cX1_setStoredCount 2 = .ok (.bipush 12, 2) := dk_16 12 (dk_at dksX1_setStoredCount_0 2 rfl rfl)
theorem dX1_setStoredCount_4 : decode cX1_setStoredCount 4 = .ok (.invokestatic 3, 3) := dk_184 0 3 (dk_at dksX1_setStoredCount_0 4 rfl rfl)
theorem dX1_setStoredCount_7 : decode cX1_setStoredCount 7 = .ok (.invokestatic 99, 3) := dk_184 0 99 (dk_at dksX1_setStoredCount_0 7 rfl rfl)
theorem dX1_setStoredCount_10 : decode cX1_setStoredCount 10 = .ok (.aload_n 0, 1) := dk_42 (dk_at dksX1_setStoredCount_0 10 rfl rfl)
theorem dX1_setStoredCount_11 : decode cX1_setStoredCount 11 = .ok (.getfield 20, 3) := dk_180 0 20 (dk_at dksX1_setStoredCount_0 11 rfl rfl)
theorem dX1_setStoredCount_14 : decode cX1_setStoredCount 14 = .ok (.getfield 155, 3) := dk_180 0 155 (dk_at dksX1_setStoredCount_0 14 rfl rfl)
theorem dX1_setStoredCount_17 : decode cX1_setStoredCount 17 = .ok (.getfield 174, 3) := dk_180 0 174 (dk_at dksX1_setStoredCount_0 17 rfl rfl)
theorem dX1_setStoredCount_20 : decode cX1_setStoredCount 20 = .ok (.istore_n 2, 1) := dk_61 (dk_at dksX1_setStoredCount_0 20 rfl rfl)
theorem dX1_setStoredCount_21 : decode cX1_setStoredCount 21 = .ok (.aload_n 0, 1) := dk_42 (dk_at dksX1_setStoredCount_0 21 rfl rfl)
theorem dX1_setStoredCount_22 : decode cX1_setStoredCount 22 = .ok (.invokevirtual 128, 3) := dk_182 0 128 (dk_at dksX1_setStoredCount_1 0 rfl rfl)
theorem dX1_setStoredCount_25 : decode cX1_setStoredCount 25 = .ok (.getfield 155, 3) := dk_180 0 155 (dk_at dksX1_setStoredCount_1 3 rfl rfl)
theorem dX1_setStoredCount_28 : decode cX1_setStoredCount 28 = .ok (.iload_n 1, 1) := dk_27 (dk_at dksX1_setStoredCount_1 6 rfl rfl)
theorem dX1_setStoredCount_29 : decode cX1_setStoredCount 29 = .ok (.putfield 174, 3) := dk_181 0 174 (dk_at dksX1_setStoredCount_1 7 rfl rfl)
theorem dX1_setStoredCount_32 : decode cX1_setStoredCount 32 = .ok (.iload_n 2, 1) := dk_28 (dk_at dksX1_setStoredCount_1 10 rfl rfl)
theorem dX1_setStoredCount_33 : decode cX1_setStoredCount 33 = .ok (.ireturn, 1) := dk_172 (dk_at dksX1_setStoredCount_1 11 rfl rfl)
abbrev cX1_repair : ByteArray := prog_1_method_29_code
def yX1_repair : MethodName := ⟨RX1, "repair", "()I"⟩
def dkwX1_repair_1 : List UInt8 := [172]
abbrev dktX1_repair_1 : List UInt8 := dkwX1_repair_1 ++ []
def dkwX1_repair_0 : List UInt8 := [42, 182, 0, 177, 184, 0, 96, 42, 180, 0, 20, 182, 0, 181, 60, 42, 182, 0, 128, 182, 0, 52, 61, 27]
abbrev dktX1_repair_0 : List UInt8 := dkwX1_repair_0 ++ dktX1_repair_1
theorem dksX1_repair_0 : cX1_repair.data.toList.drop 0 = dktX1_repair_0 := by decide +kernel
theorem dksX1_repair_1 : cX1_repair.data.toList.drop 24 = dktX1_repair_1 := dk_seg dksX1_repair_0 24 rfl rfl
theorem dX1_repair_0 : decode cX1_repair 0 = .ok (.aload_n 0, 1) := dk_42 (dk_at dksX1_repair_0 0 rfl rfl)
theorem dX1_repair_1 : decode cX1_repair 1 = .ok (.invokevirtual 177, 3) := dk_182 0 177 (dk_at dksX1_repair_0 1 rfl rfl)
theorem dX1_repair_4 : decode cX1_repair 4 = .ok (.invokestatic 96, 3) := dk_184 0 96 (dk_at dksX1_repair_0 4 rfl rfl)
theorem dX1_repair_7 : decode cX1_repair 7 = .ok (.aload_n 0, 1) := dk_42 (dk_at dksX1_repair_0 7 rfl rfl)
theorem dX1_repair_8 : decode cX1_repair 8 = .ok (.getfield 20, 3) := dk_180 0 20 (dk_at dksX1_repair_0 8 rfl rfl)
theorem dX1_repair_11 : decode cX1_repair 11 = .ok (.invokevirtual 181, 3) := dk_182 0 181 (dk_at dksX1_repair_0 11 rfl rfl)
theorem dX1_repair_14 : decode cX1_repair 14 = .ok (.istore_n 1, 1) := dk_60 (dk_at dksX1_repair_0 14 rfl rfl)
theorem dX1_repair_15 : decode cX1_repair 15 = .ok (.aload_n 0, 1) := dk_42 (dk_at dksX1_repair_0 15 rfl rfl)
theorem dX1_repair_16 : decode cX1_repair 16 = .ok (.invokevirtual 128, 3) := dk_182 0 128 (dk_at dksX1_repair_0 16 rfl rfl)
theorem dX1_repair_19 : decode cX1_repair 19 = .ok (.invokevirtual 52, 3) := dk_182 0 52 (dk_at dksX1_repair_0 19 rfl rfl)
theorem dX1_repair_22 : decode cX1_repair 22 = .ok (.istore_n 2, 1) := dk_61 (dk_at dksX1_repair_0 22 rfl rfl)
theorem dX1_repair_23 : decode cX1_repair 23 = .ok (.iload_n 1, 1) := dk_27 (dk_at dksX1_repair_0 23 rfl rfl)
theorem dX1_repair_24 : decode cX1_repair 24 = .ok (.ireturn, 1) := dk_172 (dk_at dksX1_repair_1 0 rfl rfl)
abbrev cX1_leaveLetters : ByteArray := prog_1_method_31_code
def yX1_leaveLetters : MethodName := ⟨RX1, "leaveLetters", "(II)I"⟩
def dkwX1_leaveLetters_2 : List UInt8 := [28, 96, 182, 0, 184, 83, 45, 180, 0, 131, 28, 96, 172]
abbrev dktX1_leaveLetters_2 : List UInt8 := dkwX1_leaveLetters_2 ++ []
def dkwX1_leaveLetters_1 : List UInt8 := [163, 0, 7, 4, 167, 0, 4, 3, 184, 0, 96, 42, 182, 0, 128, 180, 0, 43, 27, 45, 45, 180, 0, 131]
abbrev dktX1_leaveLetters_1 : List UInt8 := dkwX1_leaveLetters_1 ++ dktX1_leaveLetters_2
def dkwX1_leaveLetters_0 : List UInt8 := [42, 27, 182, 0, 73, 78, 28, 4, 16, 99, 184, 0, 3, 184, 0, 99, 45, 180, 0, 131, 28, 96, 16, 99]
abbrev dktX1_leaveLetters_0 : List UInt8 := dkwX1_leaveLetters_0 ++ dktX1_leaveLetters_1
theorem dksX1_leaveLetters_0 : cX1_leaveLetters.data.toList.drop 0 = dktX1_leaveLetters_0 := by decide +kernel
theorem dksX1_leaveLetters_1 : cX1_leaveLetters.data.toList.drop 24 = dktX1_leaveLetters_1 := dk_seg dksX1_leaveLetters_0 24 rfl rfl
theorem dksX1_leaveLetters_2 : cX1_leaveLetters.data.toList.drop 48 = dktX1_leaveLetters_2 := dk_seg dksX1_leaveLetters_1 24 rfl rfl
theorem dX1_leaveLetters_0 : decode cX1_leaveLetters 0 = .ok (.aload_n 0, 1) := dk_42 (dk_at dksX1_leaveLetters_0 0 rfl rfl)
theorem dX1_leaveLetters_1 : decode cX1_leaveLetters 1 = .ok (.iload_n 1, 1) := dk_27 (dk_at dksX1_leaveLetters_0 1 rfl rfl)
theorem dX1_leaveLetters_2 : decode cX1_leaveLetters 2 = .ok (.invokevirtual 73, 3) := dk_182 0 73 (dk_at dksX1_leaveLetters_0 2 rfl rfl)
theorem dX1_leaveLetters_5 : decode cX1_leaveLetters 5 = .ok (.astore_n 3, 1) := dk_78 (dk_at dksX1_leaveLetters_0 5 rfl rfl)
theorem dX1_leaveLetters_6 : decode cX1_leaveLetters 6 = .ok (.iload_n 2, 1) := dk_28 (dk_at dksX1_leaveLetters_0 6 rfl rfl)
theorem dX1_leaveLetters_7 : decode cX1_leaveLetters 7 = .ok (.iconst 1, 1) := dk_4 (dk_at dksX1_leaveLetters_0 7 rfl rfl)
theorem dX1_leaveLetters_8 : decode cX1_leaveLetters 8 = .ok (.bipush 99, 2) := dk_16 99 (dk_at dksX1_leaveLetters_0 8 rfl rfl)
theorem dX1_leaveLetters_10 : decode cX1_leaveLetters 10 = .ok (.invokestatic 3, 3) := dk_184 0 3 (dk_at dksX1_leaveLetters_0 10 rfl rfl)
theorem dX1_leaveLetters_13 : decode cX1_leaveLetters 13 = .ok (.invokestatic 99, 3) := dk_184 0 99 (dk_at dksX1_leaveLetters_0 13 rfl rfl)
theorem dX1_leaveLetters_16 : decode cX1_leaveLetters 16 = .ok (.aload_n 3, 1) := dk_45 (dk_at dksX1_leaveLetters_0 16 rfl rfl)
theorem dX1_leaveLetters_17 : decode cX1_leaveLetters 17 = .ok (.getfield 131, 3) := dk_180 0 131 (dk_at dksX1_leaveLetters_0 17 rfl rfl)
theorem dX1_leaveLetters_20 : decode cX1_leaveLetters 20 = .ok (.iload_n 2, 1) := dk_28 (dk_at dksX1_leaveLetters_0 20 rfl rfl)
theorem dX1_leaveLetters_21 : decode cX1_leaveLetters 21 = .ok (.iadd, 1) := dk_96 (dk_at dksX1_leaveLetters_0 21 rfl rfl)
theorem dX1_leaveLetters_22 : decode cX1_leaveLetters 22 = .ok (.bipush 99, 2) := dk_16 99 (dk_at dksX1_leaveLetters_0 22 rfl rfl)
theorem dX1_leaveLetters_24 : decode cX1_leaveLetters 24 = .ok (.if_icmp .gt 7, 3) := dk_163 0 7 (dk_at dksX1_leaveLetters_1 0 rfl rfl)
theorem dX1_leaveLetters_27 : decode cX1_leaveLetters 27 = .ok (.iconst 1, 1) := dk_4 (dk_at dksX1_leaveLetters_1 3 rfl rfl)
theorem dX1_leaveLetters_28 : decode cX1_leaveLetters 28 = .ok (.goto 4, 3) := dk_167 0 4 (dk_at dksX1_leaveLetters_1 4 rfl rfl)
theorem dX1_leaveLetters_31 : decode cX1_leaveLetters 31 = .ok (.iconst 0, 1) := dk_3 (dk_at dksX1_leaveLetters_1 7 rfl rfl)
theorem dX1_leaveLetters_32 : decode cX1_leaveLetters 32 = .ok (.invokestatic 96, 3) := dk_184 0 96 (dk_at dksX1_leaveLetters_1 8 rfl rfl)
theorem dX1_leaveLetters_35 : decode cX1_leaveLetters 35 = .ok (.aload_n 0, 1) := dk_42 (dk_at dksX1_leaveLetters_1 11 rfl rfl)
theorem dX1_leaveLetters_36 : decode cX1_leaveLetters 36 = .ok (.invokevirtual 128, 3) := dk_182 0 128 (dk_at dksX1_leaveLetters_1 12 rfl rfl)
theorem dX1_leaveLetters_39 : decode cX1_leaveLetters 39 = .ok (.getfield 43, 3) := dk_180 0 43 (dk_at dksX1_leaveLetters_1 15 rfl rfl)
theorem dX1_leaveLetters_42 : decode cX1_leaveLetters 42 = .ok (.iload_n 1, 1) := dk_27 (dk_at dksX1_leaveLetters_1 18 rfl rfl)
theorem dX1_leaveLetters_43 : decode cX1_leaveLetters 43 = .ok (.aload_n 3, 1) := dk_45 (dk_at dksX1_leaveLetters_1 19 rfl rfl)
theorem dX1_leaveLetters_44 : decode cX1_leaveLetters 44 = .ok (.aload_n 3, 1) := dk_45 (dk_at dksX1_leaveLetters_1 20 rfl rfl)
theorem dX1_leaveLetters_45 : decode cX1_leaveLetters 45 = .ok (.getfield 131, 3) := dk_180 0 131 (dk_at dksX1_leaveLetters_1 21 rfl rfl)
theorem dX1_leaveLetters_48 : decode cX1_leaveLetters 48 = .ok (.iload_n 2, 1) := dk_28 (dk_at dksX1_leaveLetters_2 0 rfl rfl)
theorem dX1_leaveLetters_49 : decode cX1_leaveLetters 49 = .ok (.iadd, 1) := dk_96 (dk_at dksX1_leaveLetters_2 1 rfl rfl)
theorem dX1_leaveLetters_50 : decode cX1_leaveLetters 50 = .ok (.invokevirtual 184, 3) := dk_182 0 184 (dk_at dksX1_leaveLetters_2 2 rfl rfl)
theorem dX1_leaveLetters_53 : decode cX1_leaveLetters 53 = .ok (.aastore, 1) := dk_83 (dk_at dksX1_leaveLetters_2 5 rfl rfl)
theorem dX1_leaveLetters_54 : decode cX1_leaveLetters 54 = .ok (.aload_n 3, 1) := dk_45 (dk_at dksX1_leaveLetters_2 6 rfl rfl)
theorem dX1_leaveLetters_55 : decode cX1_leaveLetters 55 = .ok (.getfield 131, 3) := dk_180 0 131 (dk_at dksX1_leaveLetters_2 7 rfl rfl)
theorem dX1_leaveLetters_58 : decode cX1_leaveLetters 58 = .ok (.iload_n 2, 1) := dk_28 (dk_at dksX1_leaveLetters_2 10 rfl rfl)
theorem dX1_leaveLetters_59 : decode cX1_leaveLetters 59 = .ok (.iadd, 1) := dk_96 (dk_at dksX1_leaveLetters_2 11 rfl rfl)
theorem dX1_leaveLetters_60 : decode cX1_leaveLetters 60 = .ok (.ireturn, 1) := dk_172 (dk_at dksX1_leaveLetters_2 12 rfl rfl)
abbrev cX1_send : ByteArray := prog_1_method_32_code
def yX1_send : MethodName := ⟨RX1, "send", "(II)I"⟩
def dkwX1_send_6 : List UInt8 := [181, 0, 195, 25, 6, 89, 180, 0, 201, 45, 180, 0, 131, 96, 181, 0, 201, 25, 5, 180, 0, 198, 172]
abbrev dktX1_send_6 : List UInt8 := dkwX1_send_6 ++ []
def dkwX1_send_5 : List UInt8 := [180, 0, 131, 45, 180, 0, 131, 96, 182, 0, 184, 83, 25, 6, 89, 180, 0, 195, 25, 5, 180, 0, 198, 96]
abbrev dktX1_send_5 : List UInt8 := dkwX1_send_5 ++ dktX1_send_6
def dkwX1_send_4 : List UInt8 := [25, 6, 180, 0, 43, 27, 45, 3, 182, 0, 184, 83, 25, 6, 180, 0, 43, 28, 25, 4, 25, 4]
abbrev dktX1_send_4 : List UInt8 := dkwX1_send_4 ++ dktX1_send_5
def dkwX1_send_3 : List UInt8 := [180, 0, 131, 96, 16, 99, 163, 0, 7, 4, 167, 0, 4, 3, 184, 0, 96, 42, 182, 0, 128, 58, 6]
abbrev dktX1_send_3 : List UInt8 := dkwX1_send_3 ++ dktX1_send_4
def dkwX1_send_2 : List UInt8 := [58, 5, 25, 5, 180, 0, 192, 153, 0, 29, 45, 180, 0, 131, 158, 0, 22, 45, 180, 0, 131, 25, 4]
abbrev dktX1_send_2 : List UInt8 := dkwX1_send_2 ++ dktX1_send_3
def dkwX1_send_1 : List UInt8 := [184, 0, 99, 187, 0, 187, 89, 42, 180, 0, 20, 27, 28, 42, 180, 0, 20, 180, 0, 39, 183, 0, 189]
abbrev dktX1_send_1 : List UInt8 := dkwX1_send_1 ++ dktX1_send_2
def dkwX1_send_0 : List UInt8 := [42, 27, 182, 0, 73, 78, 42, 28, 182, 0, 73, 58, 4, 27, 28, 159, 0, 7, 4, 167, 0, 4, 3]
abbrev dktX1_send_0 : List UInt8 := dkwX1_send_0 ++ dktX1_send_1
theorem dksX1_send_0 : cX1_send.data.toList.drop 0 = dktX1_send_0 := by decide +kernel
theorem dksX1_send_1 : cX1_send.data.toList.drop 23 = dktX1_send_1 := dk_seg dksX1_send_0 23 rfl rfl
theorem dksX1_send_2 : cX1_send.data.toList.drop 46 = dktX1_send_2 := dk_seg dksX1_send_1 23 rfl rfl
theorem dksX1_send_3 : cX1_send.data.toList.drop 69 = dktX1_send_3 := dk_seg dksX1_send_2 23 rfl rfl
theorem dksX1_send_4 : cX1_send.data.toList.drop 92 = dktX1_send_4 := dk_seg dksX1_send_3 23 rfl rfl
theorem dksX1_send_5 : cX1_send.data.toList.drop 114 = dktX1_send_5 := dk_seg dksX1_send_4 22 rfl rfl
theorem dksX1_send_6 : cX1_send.data.toList.drop 138 = dktX1_send_6 := dk_seg dksX1_send_5 24 rfl rfl
theorem dX1_send_0 : decode cX1_send 0 = .ok (.aload_n 0, 1) := dk_42 (dk_at dksX1_send_0 0 rfl rfl)
theorem dX1_send_1 : decode cX1_send 1 = .ok (.iload_n 1, 1) := dk_27 (dk_at dksX1_send_0 1 rfl rfl)
theorem dX1_send_2 : decode cX1_send 2 = .ok (.invokevirtual 73, 3) := dk_182 0 73 (dk_at dksX1_send_0 2 rfl rfl)
theorem dX1_send_5 : decode cX1_send 5 = .ok (.astore_n 3, 1) := dk_78 (dk_at dksX1_send_0 5 rfl rfl)
theorem dX1_send_6 : decode cX1_send 6 = .ok (.aload_n 0, 1) := dk_42 (dk_at dksX1_send_0 6 rfl rfl)
theorem dX1_send_7 : decode cX1_send 7 = .ok (.iload_n 2, 1) := dk_28 (dk_at dksX1_send_0 7 rfl rfl)
theorem dX1_send_8 : decode cX1_send 8 = .ok (.invokevirtual 73, 3) := dk_182 0 73 (dk_at dksX1_send_0 8 rfl rfl)
theorem dX1_send_11 : decode cX1_send 11 = .ok (.astore 4, 2) := dk_58 4 (dk_at dksX1_send_0 11 rfl rfl)
theorem dX1_send_13 : decode cX1_send 13 = .ok (.iload_n 1, 1) := dk_27 (dk_at dksX1_send_0 13 rfl rfl)
theorem dX1_send_14 : decode cX1_send 14 = .ok (.iload_n 2, 1) := dk_28 (dk_at dksX1_send_0 14 rfl rfl)
theorem dX1_send_15 : decode cX1_send 15 = .ok (.if_icmp .eq 7, 3) := dk_159 0 7 (dk_at dksX1_send_0 15 rfl rfl)
theorem dX1_send_18 : decode cX1_send 18 = .ok (.iconst 1, 1) := dk_4 (dk_at dksX1_send_0 18 rfl rfl)
theorem dX1_send_19 : decode cX1_send 19 = .ok (.goto 4, 3) := dk_167 0 4 (dk_at dksX1_send_0 19 rfl rfl)
theorem dX1_send_22 : decode cX1_send 22 = .ok (.iconst 0, 1) := dk_3 (dk_at dksX1_send_0 22 rfl rfl)
theorem dX1_send_23 : decode cX1_send 23 = .ok (.invokestatic 99, 3) := dk_184 0 99 (dk_at dksX1_send_1 0 rfl rfl)
theorem dX1_send_26 : decode cX1_send 26 = .ok (.new 187, 3) := dk_187 0 187 (dk_at dksX1_send_1 3 rfl rfl)
theorem dX1_send_29 : decode cX1_send 29 = .ok (.dup, 1) := dk_89 (dk_at dksX1_send_1 6 rfl rfl)
theorem dX1_send_30 : decode cX1_send 30 = .ok (.aload_n 0, 1) := dk_42 (dk_at dksX1_send_1 7 rfl rfl)
theorem dX1_send_31 : decode cX1_send 31 = .ok (.getfield 20, 3) := dk_180 0 20 (dk_at dksX1_send_1 8 rfl rfl)
theorem dX1_send_34 : decode cX1_send 34 = .ok (.iload_n 1, 1) := dk_27 (dk_at dksX1_send_1 11 rfl rfl)
theorem dX1_send_35 : decode cX1_send 35 = .ok (.iload_n 2, 1) := dk_28 (dk_at dksX1_send_1 12 rfl rfl)
theorem dX1_send_36 : decode cX1_send 36 = .ok (.aload_n 0, 1) := dk_42 (dk_at dksX1_send_1 13 rfl rfl)
theorem dX1_send_37 : decode cX1_send 37 = .ok (.getfield 20, 3) := dk_180 0 20 (dk_at dksX1_send_1 14 rfl rfl)
theorem dX1_send_40 : decode cX1_send 40 = .ok (.getfield 39, 3) := dk_180 0 39 (dk_at dksX1_send_1 17 rfl rfl)
theorem dX1_send_43 : decode cX1_send 43 = .ok (.invokespecial 189, 3) := dk_183 0 189 (dk_at dksX1_send_1 20 rfl rfl)
theorem dX1_send_46 : decode cX1_send 46 = .ok (.astore 5, 2) := dk_58 5 (dk_at dksX1_send_2 0 rfl rfl)
theorem dX1_send_48 : decode cX1_send 48 = .ok (.aload 5, 2) := dk_25 5 (dk_at dksX1_send_2 2 rfl rfl)
theorem dX1_send_50 : decode cX1_send 50 = .ok (.getfield 192, 3) := dk_180 0 192 (dk_at dksX1_send_2 4 rfl rfl)
theorem dX1_send_53 : decode cX1_send 53 = .ok (.ifCond .eq 29, 3) := dk_153 0 29 (dk_at dksX1_send_2 7 rfl rfl)
theorem dX1_send_56 : decode cX1_send 56 = .ok (.aload_n 3, 1) := dk_45 (dk_at dksX1_send_2 10 rfl rfl)
theorem dX1_send_57 : decode cX1_send 57 = .ok (.getfield 131, 3) := dk_180 0 131 (dk_at dksX1_send_2 11 rfl rfl)
theorem dX1_send_60 : decode cX1_send 60 = .ok (.ifCond .le 22, 3) := dk_158 0 22 (dk_at dksX1_send_2 14 rfl rfl)
theorem dX1_send_63 : decode cX1_send 63 = .ok (.aload_n 3, 1) := dk_45 (dk_at dksX1_send_2 17 rfl rfl)
theorem dX1_send_64 : decode cX1_send 64 = .ok (.getfield 131, 3) := dk_180 0 131 (dk_at dksX1_send_2 18 rfl rfl)
theorem dX1_send_67 : decode cX1_send 67 = .ok (.aload 4, 2) := dk_25 4 (dk_at dksX1_send_2 21 rfl rfl)
theorem dX1_send_69 : decode cX1_send 69 = .ok (.getfield 131, 3) := dk_180 0 131 (dk_at dksX1_send_3 0 rfl rfl)
theorem dX1_send_72 : decode cX1_send 72 = .ok (.iadd, 1) := dk_96 (dk_at dksX1_send_3 3 rfl rfl)
theorem dX1_send_73 : decode cX1_send 73 = .ok (.bipush 99, 2) := dk_16 99 (dk_at dksX1_send_3 4 rfl rfl)
theorem dX1_send_75 : decode cX1_send 75 = .ok (.if_icmp .gt 7, 3) := dk_163 0 7 (dk_at dksX1_send_3 6 rfl rfl)
theorem dX1_send_78 : decode cX1_send 78 = .ok (.iconst 1, 1) := dk_4 (dk_at dksX1_send_3 9 rfl rfl)
theorem dX1_send_79 : decode cX1_send 79 = .ok (.goto 4, 3) := dk_167 0 4 (dk_at dksX1_send_3 10 rfl rfl)
theorem dX1_send_82 : decode cX1_send 82 = .ok (.iconst 0, 1) := dk_3 (dk_at dksX1_send_3 13 rfl rfl)
theorem dX1_send_83 : decode cX1_send 83 = .ok (.invokestatic 96, 3) := dk_184 0 96 (dk_at dksX1_send_3 14 rfl rfl)
theorem dX1_send_86 : decode cX1_send 86 = .ok (.aload_n 0, 1) := dk_42 (dk_at dksX1_send_3 17 rfl rfl)
theorem dX1_send_87 : decode cX1_send 87 = .ok (.invokevirtual 128, 3) := dk_182 0 128 (dk_at dksX1_send_3 18 rfl rfl)
theorem dX1_send_90 : decode cX1_send 90 = .ok (.astore 6, 2) := dk_58 6 (dk_at dksX1_send_3 21 rfl rfl)
theorem dX1_send_92 : decode cX1_send 92 = .ok (.aload 6, 2) := dk_25 6 (dk_at dksX1_send_4 0 rfl rfl)
theorem dX1_send_94 : decode cX1_send 94 = .ok (.getfield 43, 3) := dk_180 0 43 (dk_at dksX1_send_4 2 rfl rfl)
theorem dX1_send_97 : decode cX1_send 97 = .ok (.iload_n 1, 1) := dk_27 (dk_at dksX1_send_4 5 rfl rfl)
theorem dX1_send_98 : decode cX1_send 98 = .ok (.aload_n 3, 1) := dk_45 (dk_at dksX1_send_4 6 rfl rfl)
theorem dX1_send_99 : decode cX1_send 99 = .ok (.iconst 0, 1) := dk_3 (dk_at dksX1_send_4 7 rfl rfl)
theorem dX1_send_100 : decode cX1_send 100 = .ok (.invokevirtual 184, 3) := dk_182 0 184 (dk_at dksX1_send_4 8 rfl rfl)
theorem dX1_send_103 : decode cX1_send 103 = .ok (.aastore, 1) := dk_83 (dk_at dksX1_send_4 11 rfl rfl)
theorem dX1_send_104 : decode cX1_send 104 = .ok (.aload 6, 2) := dk_25 6 (dk_at dksX1_send_4 12 rfl rfl)
theorem dX1_send_106 : decode cX1_send 106 = .ok (.getfield 43, 3) := dk_180 0 43 (dk_at dksX1_send_4 14 rfl rfl)
theorem dX1_send_109 : decode cX1_send 109 = .ok (.iload_n 2, 1) := dk_28 (dk_at dksX1_send_4 17 rfl rfl)
theorem dX1_send_110 : decode cX1_send 110 = .ok (.aload 4, 2) := dk_25 4 (dk_at dksX1_send_4 18 rfl rfl)
theorem dX1_send_112 : decode cX1_send 112 = .ok (.aload 4, 2) := dk_25 4 (dk_at dksX1_send_4 20 rfl rfl)
theorem dX1_send_114 : decode cX1_send 114 = .ok (.getfield 131, 3) := dk_180 0 131 (dk_at dksX1_send_5 0 rfl rfl)
theorem dX1_send_117 : decode cX1_send 117 = .ok (.aload_n 3, 1) := dk_45 (dk_at dksX1_send_5 3 rfl rfl)
theorem dX1_send_118 : decode cX1_send 118 = .ok (.getfield 131, 3) := dk_180 0 131 (dk_at dksX1_send_5 4 rfl rfl)
theorem dX1_send_121 : decode cX1_send 121 = .ok (.iadd, 1) := dk_96 (dk_at dksX1_send_5 7 rfl rfl)
theorem dX1_send_122 : decode cX1_send 122 = .ok (.invokevirtual 184, 3) := dk_182 0 184 (dk_at dksX1_send_5 8 rfl rfl)
theorem dX1_send_125 : decode cX1_send 125 = .ok (.aastore, 1) := dk_83 (dk_at dksX1_send_5 11 rfl rfl)
theorem dX1_send_126 : decode cX1_send 126 = .ok (.aload 6, 2) := dk_25 6 (dk_at dksX1_send_5 12 rfl rfl)
theorem dX1_send_128 : decode cX1_send 128 = .ok (.dup, 1) := dk_89 (dk_at dksX1_send_5 14 rfl rfl)
theorem dX1_send_129 : decode cX1_send 129 = .ok (.getfield 195, 3) := dk_180 0 195 (dk_at dksX1_send_5 15 rfl rfl)
theorem dX1_send_132 : decode cX1_send 132 = .ok (.aload 5, 2) := dk_25 5 (dk_at dksX1_send_5 18 rfl rfl)
theorem dX1_send_134 : decode cX1_send 134 = .ok (.getfield 198, 3) := dk_180 0 198 (dk_at dksX1_send_5 20 rfl rfl)
theorem dX1_send_137 : decode cX1_send 137 = .ok (.iadd, 1) := dk_96 (dk_at dksX1_send_5 23 rfl rfl)
theorem dX1_send_138 : decode cX1_send 138 = .ok (.putfield 195, 3) := dk_181 0 195 (dk_at dksX1_send_6 0 rfl rfl)
theorem dX1_send_141 : decode cX1_send 141 = .ok (.aload 6, 2) := dk_25 6 (dk_at dksX1_send_6 3 rfl rfl)
theorem dX1_send_143 : decode cX1_send 143 = .ok (.dup, 1) := dk_89 (dk_at dksX1_send_6 5 rfl rfl)
theorem dX1_send_144 : decode cX1_send 144 = .ok (.getfield 201, 3) := dk_180 0 201 (dk_at dksX1_send_6 6 rfl rfl)
theorem dX1_send_147 : decode cX1_send 147 = .ok (.aload_n 3, 1) := dk_45 (dk_at dksX1_send_6 9 rfl rfl)
theorem dX1_send_148 : decode cX1_send 148 = .ok (.getfield 131, 3) := dk_180 0 131 (dk_at dksX1_send_6 10 rfl rfl)
theorem dX1_send_151 : decode cX1_send 151 = .ok (.iadd, 1) := dk_96 (dk_at dksX1_send_6 13 rfl rfl)
theorem dX1_send_152 : decode cX1_send 152 = .ok (.putfield 201, 3) := dk_181 0 201 (dk_at dksX1_send_6 14 rfl rfl)
theorem dX1_send_155 : decode cX1_send 155 = .ok (.aload 5, 2) := dk_25 5 (dk_at dksX1_send_6 17 rfl rfl)
theorem dX1_send_157 : decode cX1_send 157 = .ok (.getfield 198, 3) := dk_180 0 198 (dk_at dksX1_send_6 19 rfl rfl)
theorem dX1_send_160 : decode cX1_send 160 = .ok (.ireturn, 1) := dk_172 (dk_at dksX1_send_6 22 rfl rfl)
abbrev cX1_restore : ByteArray := prog_1_method_33_code
def yX1_restore : MethodName := ⟨RX1, "restore", "()I"⟩
def dkwX1_restore_1 : List UInt8 := [182, 0, 85, 42, 180, 0, 20, 182, 0, 115, 172]
abbrev dktX1_restore_1 : List UInt8 := dkwX1_restore_1 ++ []
def dkwX1_restore_0 : List UInt8 := [42, 180, 0, 204, 198, 0, 7, 4, 167, 0, 4, 3, 184, 0, 96, 42, 42, 180, 0, 204, 182, 0, 81]
abbrev dktX1_restore_0 : List UInt8 := dkwX1_restore_0 ++ dktX1_restore_1
theorem dksX1_restore_0 : cX1_restore.data.toList.drop 0 = dktX1_restore_0 := by decide +kernel
theorem dksX1_restore_1 : cX1_restore.data.toList.drop 23 = dktX1_restore_1 := dk_seg dksX1_restore_0 23 rfl rfl
theorem dX1_restore_0 : decode cX1_restore 0 = .ok (.aload_n 0, 1) := dk_42 (dk_at dksX1_restore_0 0 rfl rfl)
theorem dX1_restore_1 : decode cX1_restore 1 = .ok (.getfield 204, 3) := dk_180 0 204 (dk_at dksX1_restore_0 1 rfl rfl)
theorem dX1_restore_4 : decode cX1_restore 4 = .ok (.ifnull 7, 3) := dk_198 0 7 (dk_at dksX1_restore_0 4 rfl rfl)
theorem dX1_restore_7 : decode cX1_restore 7 = .ok (.iconst 1, 1) := dk_4 (dk_at dksX1_restore_0 7 rfl rfl)
theorem dX1_restore_8 : decode cX1_restore 8 = .ok (.goto 4, 3) := dk_167 0 4 (dk_at dksX1_restore_0 8 rfl rfl)
theorem dX1_restore_11 : decode cX1_restore 11 = .ok (.iconst 0, 1) := dk_3 (dk_at dksX1_restore_0 11 rfl rfl)
theorem dX1_restore_12 : decode cX1_restore 12 = .ok (.invokestatic 96, 3) := dk_184 0 96 (dk_at dksX1_restore_0 12 rfl rfl)
theorem dX1_restore_15 : decode cX1_restore 15 = .ok (.aload_n 0, 1) := dk_42 (dk_at dksX1_restore_0 15 rfl rfl)
theorem dX1_restore_16 : decode cX1_restore 16 = .ok (.aload_n 0, 1) := dk_42 (dk_at dksX1_restore_0 16 rfl rfl)
theorem dX1_restore_17 : decode cX1_restore 17 = .ok (.getfield 204, 3) := dk_180 0 204 (dk_at dksX1_restore_0 17 rfl rfl)
theorem dX1_restore_20 : decode cX1_restore 20 = .ok (.invokevirtual 81, 3) := dk_182 0 81 (dk_at dksX1_restore_0 20 rfl rfl)
theorem dX1_restore_23 : decode cX1_restore 23 = .ok (.invokevirtual 85, 3) := dk_182 0 85 (dk_at dksX1_restore_1 0 rfl rfl)
theorem dX1_restore_26 : decode cX1_restore 26 = .ok (.aload_n 0, 1) := dk_42 (dk_at dksX1_restore_1 3 rfl rfl)
theorem dX1_restore_27 : decode cX1_restore 27 = .ok (.getfield 20, 3) := dk_180 0 20 (dk_at dksX1_restore_1 4 rfl rfl)
theorem dX1_restore_30 : decode cX1_restore 30 = .ok (.invokevirtual 115, 3) := dk_182 0 115 (dk_at dksX1_restore_1 7 rfl rfl)
theorem dX1_restore_33 : decode cX1_restore 33 = .ok (.ireturn, 1) := dk_172 (dk_at dksX1_restore_1 10 rfl rfl)
abbrev cX1_undo : ByteArray := prog_1_method_34_code
def yX1_undo : MethodName := ⟨RX1, "undo", "()I"⟩
def dkwX1_undo_1 : List UInt8 := [182, 0, 208, 192, 0, 17, 181, 0, 20, 42, 180, 0, 29, 182, 0, 207, 172]
abbrev dktX1_undo_1 : List UInt8 := dkwX1_undo_1 ++ []
def dkwX1_undo_0 : List UInt8 := [42, 180, 0, 29, 182, 0, 207, 158, 0, 7, 4, 167, 0, 4, 3, 184, 0, 96, 42, 42, 180, 0, 29]
abbrev dktX1_undo_0 : List UInt8 := dkwX1_undo_0 ++ dktX1_undo_1
theorem dksX1_undo_0 : cX1_undo.data.toList.drop 0 = dktX1_undo_0 := by decide +kernel
theorem dksX1_undo_1 : cX1_undo.data.toList.drop 23 = dktX1_undo_1 := dk_seg dksX1_undo_0 23 rfl rfl
theorem dX1_undo_0 : decode cX1_undo 0 = .ok (.aload_n 0, 1) := dk_42 (dk_at dksX1_undo_0 0 rfl rfl)
theorem dX1_undo_1 : decode cX1_undo 1 = .ok (.getfield 29, 3) := dk_180 0 29 (dk_at dksX1_undo_0 1 rfl rfl)
theorem dX1_undo_4 : decode cX1_undo 4 = .ok (.invokevirtual 207, 3) := dk_182 0 207 (dk_at dksX1_undo_0 4 rfl rfl)
theorem dX1_undo_7 : decode cX1_undo 7 = .ok (.ifCond .le 7, 3) := dk_158 0 7 (dk_at dksX1_undo_0 7 rfl rfl)
theorem dX1_undo_10 : decode cX1_undo 10 = .ok (.iconst 1, 1) := dk_4 (dk_at dksX1_undo_0 10 rfl rfl)
theorem dX1_undo_11 : decode cX1_undo 11 = .ok (.goto 4, 3) := dk_167 0 4 (dk_at dksX1_undo_0 11 rfl rfl)
theorem dX1_undo_14 : decode cX1_undo 14 = .ok (.iconst 0, 1) := dk_3 (dk_at dksX1_undo_0 14 rfl rfl)
theorem dX1_undo_15 : decode cX1_undo 15 = .ok (.invokestatic 96, 3) := dk_184 0 96 (dk_at dksX1_undo_0 15 rfl rfl)
theorem dX1_undo_18 : decode cX1_undo 18 = .ok (.aload_n 0, 1) := dk_42 (dk_at dksX1_undo_0 18 rfl rfl)
theorem dX1_undo_19 : decode cX1_undo 19 = .ok (.aload_n 0, 1) := dk_42 (dk_at dksX1_undo_0 19 rfl rfl)
theorem dX1_undo_20 : decode cX1_undo 20 = .ok (.getfield 29, 3) := dk_180 0 29 (dk_at dksX1_undo_0 20 rfl rfl)
theorem dX1_undo_23 : decode cX1_undo 23 = .ok (.invokevirtual 208, 3) := dk_182 0 208 (dk_at dksX1_undo_1 0 rfl rfl)
theorem dX1_undo_26 : decode cX1_undo 26 = .ok (.checkcast 17, 3) := dk_192 0 17 (dk_at dksX1_undo_1 3 rfl rfl)
theorem dX1_undo_29 : decode cX1_undo 29 = .ok (.putfield 20, 3) := dk_181 0 20 (dk_at dksX1_undo_1 6 rfl rfl)
theorem dX1_undo_32 : decode cX1_undo 32 = .ok (.aload_n 0, 1) := dk_42 (dk_at dksX1_undo_1 9 rfl rfl)
theorem dX1_undo_33 : decode cX1_undo 33 = .ok (.getfield 29, 3) := dk_180 0 29 (dk_at dksX1_undo_1 10 rfl rfl)
theorem dX1_undo_36 : decode cX1_undo 36 = .ok (.invokevirtual 207, 3) := dk_182 0 207 (dk_at dksX1_undo_1 13 rfl rfl)
theorem dX1_undo_39 : decode cX1_undo 39 = .ok (.ireturn, 1) := dk_172 (dk_at dksX1_undo_1 16 rfl rfl)
abbrev cX1_hasInn : ByteArray := prog_1_method_38_code
def yX1_hasInn : MethodName := ⟨RX1, "hasInn", "(I)Z"⟩
def dkwX1_hasInn_0 : List UInt8 := [27, 3, 16, 11, 184, 0, 3, 184, 0, 69, 42, 180, 0, 20, 27, 182, 0, 65, 172]
abbrev dktX1_hasInn_0 : List UInt8 := dkwX1_hasInn_0 ++ []
theorem dksX1_hasInn_0 : cX1_hasInn.data.toList.drop 0 = dktX1_hasInn_0 := by decide +kernel
theorem dX1_hasInn_0 : decode cX1_hasInn 0 = .ok (.iload_n 1, 1) := dk_27 (dk_at dksX1_hasInn_0 0 rfl rfl)
theorem dX1_hasInn_1 : decode cX1_hasInn 1 = .ok (.iconst 0, 1) := dk_3 (dk_at dksX1_hasInn_0 1 rfl rfl)
theorem dX1_hasInn_2 : decode cX1_hasInn 2 = .ok (.bipush 11, 2) := dk_16 11 (dk_at dksX1_hasInn_0 2 rfl rfl)
theorem dX1_hasInn_4 : decode cX1_hasInn 4 = .ok (.invokestatic 3, 3) := dk_184 0 3 (dk_at dksX1_hasInn_0 4 rfl rfl)
theorem dX1_hasInn_7 : decode cX1_hasInn 7 = .ok (.invokestatic 69, 3) := dk_184 0 69 (dk_at dksX1_hasInn_0 7 rfl rfl)
theorem dX1_hasInn_10 : decode cX1_hasInn 10 = .ok (.aload_n 0, 1) := dk_42 (dk_at dksX1_hasInn_0 10 rfl rfl)
theorem dX1_hasInn_11 : decode cX1_hasInn 11 = .ok (.getfield 20, 3) := dk_180 0 20 (dk_at dksX1_hasInn_0 11 rfl rfl)
theorem dX1_hasInn_14 : decode cX1_hasInn 14 = .ok (.iload_n 1, 1) := dk_27 (dk_at dksX1_hasInn_0 14 rfl rfl)
theorem dX1_hasInn_15 : decode cX1_hasInn 15 = .ok (.invokevirtual 65, 3) := dk_182 0 65 (dk_at dksX1_hasInn_0 15 rfl rfl)
theorem dX1_hasInn_18 : decode cX1_hasInn 18 = .ok (.ireturn, 1) := dk_172 (dk_at dksX1_hasInn_0 18 rfl rfl)
abbrev cX1_mile : ByteArray := prog_1_method_39_code
def yX1_mile : MethodName := ⟨RX1, "mile", "(I)I"⟩
def dkwX1_mile_0 : List UInt8 := [42, 27, 182, 0, 73, 180, 0, 149, 172]
abbrev dktX1_mile_0 : List UInt8 := dkwX1_mile_0 ++ []
theorem dksX1_mile_0 : cX1_mile.data.toList.drop 0 = dktX1_mile_0 := by decide +kernel
theorem dX1_mile_0 : decode cX1_mile 0 = .ok (.aload_n 0, 1) := dk_42 (dk_at dksX1_mile_0 0 rfl rfl)
theorem dX1_mile_1 : decode cX1_mile 1 = .ok (.iload_n 1, 1) := dk_27 (dk_at dksX1_mile_0 1 rfl rfl)
theorem dX1_mile_2 : decode cX1_mile 2 = .ok (.invokevirtual 73, 3) := dk_182 0 73 (dk_at dksX1_mile_0 2 rfl rfl)
theorem dX1_mile_5 : decode cX1_mile 5 = .ok (.getfield 149, 3) := dk_180 0 149 (dk_at dksX1_mile_0 5 rfl rfl)
theorem dX1_mile_8 : decode cX1_mile 8 = .ok (.ireturn, 1) := dk_172 (dk_at dksX1_mile_0 8 rfl rfl)
abbrev cX1_next : ByteArray := prog_1_method_40_code
def yX1_next : MethodName := ⟨RX1, "next", "(I)I"⟩
def dkwX1_next_0 : List UInt8 := [42, 27, 182, 0, 73, 77, 42, 180, 0, 20, 180, 0, 155, 180, 0, 159, 27, 46, 172]
abbrev dktX1_next_0 : List UInt8 := dkwX1_next_0 ++ []
theorem dksX1_next_0 : cX1_next.data.toList.drop 0 = dktX1_next_0 := by decide +kernel
theorem dX1_next_0 : decode cX1_next 0 = .ok (.aload_n 0, 1) := dk_42 (dk_at dksX1_next_0 0 rfl rfl)
theorem dX1_next_1 : decode cX1_next 1 = .ok (.iload_n 1, 1) := dk_27 (dk_at dksX1_next_0 1 rfl rfl)
theorem dX1_next_2 : decode cX1_next 2 = .ok (.invokevirtual 73, 3) := dk_182 0 73 (dk_at dksX1_next_0 2 rfl rfl)
theorem dX1_next_5 : decode cX1_next 5 = .ok (.astore_n 2, 1) := dk_77 (dk_at dksX1_next_0 5 rfl rfl)
theorem dX1_next_6 : decode cX1_next 6 = .ok (.aload_n 0, 1) := dk_42 (dk_at dksX1_next_0 6 rfl rfl)
theorem dX1_next_7 : decode cX1_next 7 = .ok (.getfield 20, 3) := dk_180 0 20 (dk_at dksX1_next_0 7 rfl rfl)
theorem dX1_next_10 : decode cX1_next 10 = .ok (.getfield 155, 3) := dk_180 0 155 (dk_at dksX1_next_0 10 rfl rfl)
theorem dX1_next_13 : decode cX1_next 13 = .ok (.getfield 159, 3) := dk_180 0 159 (dk_at dksX1_next_0 13 rfl rfl)
theorem dX1_next_16 : decode cX1_next 16 = .ok (.iload_n 1, 1) := dk_27 (dk_at dksX1_next_0 16 rfl rfl)
theorem dX1_next_17 : decode cX1_next 17 = .ok (.iaload, 1) := dk_46 (dk_at dksX1_next_0 17 rfl rfl)
theorem dX1_next_18 : decode cX1_next 18 = .ok (.ireturn, 1) := dk_172 (dk_at dksX1_next_0 18 rfl rfl)
abbrev cX1_skip : ByteArray := prog_1_method_41_code
def yX1_skip : MethodName := ⟨RX1, "skip", "(I)I"⟩
def dkwX1_skip_0 : List UInt8 := [42, 27, 182, 0, 73, 77, 42, 180, 0, 20, 180, 0, 155, 180, 0, 165, 27, 46, 172]
abbrev dktX1_skip_0 : List UInt8 := dkwX1_skip_0 ++ []
theorem dksX1_skip_0 : cX1_skip.data.toList.drop 0 = dktX1_skip_0 := by decide +kernel
theorem dX1_skip_0 : decode cX1_skip 0 = .ok (.aload_n 0, 1) := dk_42 (dk_at dksX1_skip_0 0 rfl rfl)
theorem dX1_skip_1 : decode cX1_skip 1 = .ok (.iload_n 1, 1) := dk_27 (dk_at dksX1_skip_0 1 rfl rfl)
theorem dX1_skip_2 : decode cX1_skip 2 = .ok (.invokevirtual 73, 3) := dk_182 0 73 (dk_at dksX1_skip_0 2 rfl rfl)
theorem dX1_skip_5 : decode cX1_skip 5 = .ok (.astore_n 2, 1) := dk_77 (dk_at dksX1_skip_0 5 rfl rfl)
theorem dX1_skip_6 : decode cX1_skip 6 = .ok (.aload_n 0, 1) := dk_42 (dk_at dksX1_skip_0 6 rfl rfl)
theorem dX1_skip_7 : decode cX1_skip 7 = .ok (.getfield 20, 3) := dk_180 0 20 (dk_at dksX1_skip_0 7 rfl rfl)
theorem dX1_skip_10 : decode cX1_skip 10 = .ok (.getfield 155, 3) := dk_180 0 155 (dk_at dksX1_skip_0 10 rfl rfl)
theorem dX1_skip_13 : decode cX1_skip 13 = .ok (.getfield 165, 3) := dk_180 0 165 (dk_at dksX1_skip_0 13 rfl rfl)
theorem dX1_skip_16 : decode cX1_skip 16 = .ok (.iload_n 1, 1) := dk_27 (dk_at dksX1_skip_0 16 rfl rfl)
theorem dX1_skip_17 : decode cX1_skip 17 = .ok (.iaload, 1) := dk_46 (dk_at dksX1_skip_0 17 rfl rfl)
theorem dX1_skip_18 : decode cX1_skip 18 = .ok (.ireturn, 1) := dk_172 (dk_at dksX1_skip_0 18 rfl rfl)
abbrev cX1_isOpen : ByteArray := prog_1_method_42_code
def yX1_isOpen : MethodName := ⟨RX1, "isOpen", "(I)Z"⟩
def dkwX1_isOpen_0 : List UInt8 := [42, 27, 182, 0, 73, 180, 0, 138, 172]
abbrev dktX1_isOpen_0 : List UInt8 := dkwX1_isOpen_0 ++ []
theorem dksX1_isOpen_0 : cX1_isOpen.data.toList.drop 0 = dktX1_isOpen_0 := by decide +kernel
theorem dX1_isOpen_0 : decode cX1_isOpen 0 = .ok (.aload_n 0, 1) := dk_42 (dk_at dksX1_isOpen_0 0 rfl rfl)
theorem dX1_isOpen_1 : decode cX1_isOpen 1 = .ok (.iload_n 1, 1) := dk_27 (dk_at dksX1_isOpen_0 1 rfl rfl)
theorem dX1_isOpen_2 : decode cX1_isOpen 2 = .ok (.invokevirtual 73, 3) := dk_182 0 73 (dk_at dksX1_isOpen_0 2 rfl rfl)
theorem dX1_isOpen_5 : decode cX1_isOpen 5 = .ok (.getfield 138, 3) := dk_180 0 138 (dk_at dksX1_isOpen_0 5 rfl rfl)
theorem dX1_isOpen_8 : decode cX1_isOpen 8 = .ok (.ireturn, 1) := dk_172 (dk_at dksX1_isOpen_0 8 rfl rfl)
abbrev cX1_letters : ByteArray := prog_1_method_43_code
def yX1_letters : MethodName := ⟨RX1, "letters", "(I)I"⟩
def dkwX1_letters_0 : List UInt8 := [42, 27, 182, 0, 73, 180, 0, 131, 172]
abbrev dktX1_letters_0 : List UInt8 := dkwX1_letters_0 ++ []
theorem dksX1_letters_0 : cX1_letters.data.toList.drop 0 = dktX1_letters_0 := by decide +kernel
theorem dX1_letters_0 : decode cX1_letters 0 = .ok (.aload_n 0, 1) := dk_42 (dk_at dksX1_letters_0 0 rfl rfl)
theorem dX1_letters_1 : decode cX1_letters 1 = .ok (.iload_n 1, 1) := dk_27 (dk_at dksX1_letters_0 1 rfl rfl)
theorem dX1_letters_2 : decode cX1_letters 2 = .ok (.invokevirtual 73, 3) := dk_182 0 73 (dk_at dksX1_letters_0 2 rfl rfl)
theorem dX1_letters_5 : decode cX1_letters 5 = .ok (.getfield 131, 3) := dk_180 0 131 (dk_at dksX1_letters_0 5 rfl rfl)
theorem dX1_letters_8 : decode cX1_letters 8 = .ok (.ireturn, 1) := dk_172 (dk_at dksX1_letters_0 8 rfl rfl)
abbrev cX1_chainInn : ByteArray := prog_1_method_57_code
def yX1_chainInn : MethodName := ⟨RX1, "chainInn", "(I)I"⟩
def dkwX1_chainInn_1 : List UInt8 := [44, 27, 185, 0, 219, 2, 0, 192, 0, 223, 182, 0, 225, 172]
abbrev dktX1_chainInn_1 : List UInt8 := dkwX1_chainInn_1 ++ []
def dkwX1_chainInn_0 : List UInt8 := [42, 180, 0, 20, 182, 0, 232, 77, 27, 3, 44, 185, 0, 216, 1, 0, 4, 100, 184, 0, 3, 184, 0, 69]
abbrev dktX1_chainInn_0 : List UInt8 := dkwX1_chainInn_0 ++ dktX1_chainInn_1
theorem dksX1_chainInn_0 : cX1_chainInn.data.toList.drop 0 = dktX1_chainInn_0 := by decide +kernel
theorem dksX1_chainInn_1 : cX1_chainInn.data.toList.drop 24 = dktX1_chainInn_1 := dk_seg dksX1_chainInn_0 24 rfl rfl
theorem dX1_chainInn_0 : decode cX1_chainInn 0 = .ok (.aload_n 0, 1) := dk_42 (dk_at dksX1_chainInn_0 0 rfl rfl)
theorem dX1_chainInn_1 : decode cX1_chainInn 1 = .ok (.getfield 20, 3) := dk_180 0 20 (dk_at dksX1_chainInn_0 1 rfl rfl)
theorem dX1_chainInn_4 : decode cX1_chainInn 4 = .ok (.invokevirtual 232, 3) := dk_182 0 232 (dk_at dksX1_chainInn_0 4 rfl rfl)
theorem dX1_chainInn_7 : decode cX1_chainInn 7 = .ok (.astore_n 2, 1) := dk_77 (dk_at dksX1_chainInn_0 7 rfl rfl)
theorem dX1_chainInn_8 : decode cX1_chainInn 8 = .ok (.iload_n 1, 1) := dk_27 (dk_at dksX1_chainInn_0 8 rfl rfl)
theorem dX1_chainInn_9 : decode cX1_chainInn 9 = .ok (.iconst 0, 1) := dk_3 (dk_at dksX1_chainInn_0 9 rfl rfl)
theorem dX1_chainInn_10 : decode cX1_chainInn 10 = .ok (.aload_n 2, 1) := dk_44 (dk_at dksX1_chainInn_0 10 rfl rfl)
theorem dX1_chainInn_11 : decode cX1_chainInn 11 = .ok (.invokeinterface 216 1, 5) := by decide +kernel
theorem dX1_chainInn_16 : decode cX1_chainInn 16 = .ok (.iconst 1, 1) := dk_4 (dk_at dksX1_chainInn_0 16 rfl rfl)
theorem dX1_chainInn_17 : decode cX1_chainInn 17 = .ok (.isub, 1) := dk_100 (dk_at dksX1_chainInn_0 17 rfl rfl)
theorem dX1_chainInn_18 : decode cX1_chainInn 18 = .ok (.invokestatic 3, 3) := dk_184 0 3 (dk_at dksX1_chainInn_0 18 rfl rfl)
theorem dX1_chainInn_21 : decode cX1_chainInn 21 = .ok (.invokestatic 69, 3) := dk_184 0 69 (dk_at dksX1_chainInn_0 21 rfl rfl)
theorem dX1_chainInn_24 : decode cX1_chainInn 24 = .ok (.aload_n 2, 1) := dk_44 (dk_at dksX1_chainInn_1 0 rfl rfl)
theorem dX1_chainInn_25 : decode cX1_chainInn 25 = .ok (.iload_n 1, 1) := dk_27 (dk_at dksX1_chainInn_1 1 rfl rfl)
theorem dX1_chainInn_26 : decode cX1_chainInn 26 = .ok (.invokeinterface 219 2, 5) := by decide +kernel
theorem dX1_chainInn_31 : decode cX1_chainInn 31 = .ok (.checkcast 223, 3) := dk_192 0 223 (dk_at dksX1_chainInn_1 7 rfl rfl)
theorem dX1_chainInn_34 : decode cX1_chainInn 34 = .ok (.invokevirtual 225, 3) := dk_182 0 225 (dk_at dksX1_chainInn_1 10 rfl rfl)
theorem dX1_chainInn_37 : decode cX1_chainInn 37 = .ok (.ireturn, 1) := dk_172 (dk_at dksX1_chainInn_1 13 rfl rfl)
abbrev cX1_position : ByteArray := prog_1_method_58_code
def yX1_position : MethodName := ⟨RX1, "position", "(I)I"⟩
def dkwX1_position_0 : List UInt8 := [42, 27, 182, 0, 73, 77, 42, 180, 0, 20, 182, 0, 232, 27, 184, 0, 235, 185, 0, 239, 2, 0, 172]
abbrev dktX1_position_0 : List UInt8 := dkwX1_position_0 ++ []
theorem dksX1_position_0 : cX1_position.data.toList.drop 0 = dktX1_position_0 := by decide +kernel
theorem dX1_position_0 : decode cX1_position 0 = .ok (.aload_n 0, 1) := dk_42 (dk_at dksX1_position_0 0 rfl rfl)
theorem dX1_position_1 : decode cX1_position 1 = .ok (.iload_n 1, 1) := dk_27 (dk_at dksX1_position_0 1 rfl rfl)
theorem dX1_position_2 : decode cX1_position 2 = .ok (.invokevirtual 73, 3) := dk_182 0 73 (dk_at dksX1_position_0 2 rfl rfl)
theorem dX1_position_5 : decode cX1_position 5 = .ok (.astore_n 2, 1) := dk_77 (dk_at dksX1_position_0 5 rfl rfl)
theorem dX1_position_6 : decode cX1_position 6 = .ok (.aload_n 0, 1) := dk_42 (dk_at dksX1_position_0 6 rfl rfl)
theorem dX1_position_7 : decode cX1_position 7 = .ok (.getfield 20, 3) := dk_180 0 20 (dk_at dksX1_position_0 7 rfl rfl)
theorem dX1_position_10 : decode cX1_position 10 = .ok (.invokevirtual 232, 3) := dk_182 0 232 (dk_at dksX1_position_0 10 rfl rfl)
theorem dX1_position_13 : decode cX1_position 13 = .ok (.iload_n 1, 1) := dk_27 (dk_at dksX1_position_0 13 rfl rfl)
theorem dX1_position_14 : decode cX1_position 14 = .ok (.invokestatic 235, 3) := dk_184 0 235 (dk_at dksX1_position_0 14 rfl rfl)
theorem dX1_position_17 : decode cX1_position 17 = .ok (.invokeinterface 239 2, 5) := by decide +kernel
theorem dX1_position_22 : decode cX1_position 22 = .ok (.ireturn, 1) := dk_172 (dk_at dksX1_position_0 22 rfl rfl)
abbrev cX1_isReachable : ByteArray := prog_1_method_66_code
def yX1_isReachable : MethodName := ⟨RX1, "isReachable", "(II)Z"⟩
def dkwX1_isReachable_0 : List UInt8 := [42, 27, 28, 182, 1, 8, 180, 0, 192, 172]
abbrev dktX1_isReachable_0 : List UInt8 := dkwX1_isReachable_0 ++ []
theorem dksX1_isReachable_0 : cX1_isReachable.data.toList.drop 0 = dktX1_isReachable_0 := by decide +kernel
theorem dX1_isReachable_0 : decode cX1_isReachable 0 = .ok (.aload_n 0, 1) := dk_42 (dk_at dksX1_isReachable_0 0 rfl rfl)
theorem dX1_isReachable_1 : decode cX1_isReachable 1 = .ok (.iload_n 1, 1) := dk_27 (dk_at dksX1_isReachable_0 1 rfl rfl)
theorem dX1_isReachable_2 : decode cX1_isReachable 2 = .ok (.iload_n 2, 1) := dk_28 (dk_at dksX1_isReachable_0 2 rfl rfl)
theorem dX1_isReachable_3 : decode cX1_isReachable 3 = .ok (.invokevirtual 264, 3) := dk_182 1 8 (dk_at dksX1_isReachable_0 3 rfl rfl)
theorem dX1_isReachable_6 : decode cX1_isReachable 6 = .ok (.getfield 192, 3) := dk_180 0 192 (dk_at dksX1_isReachable_0 6 rfl rfl)
theorem dX1_isReachable_9 : decode cX1_isReachable 9 = .ok (.ireturn, 1) := dk_172 (dk_at dksX1_isReachable_0 9 rfl rfl)
abbrev cX1_ride : ByteArray := prog_1_method_65_code
def yX1_ride : MethodName := ⟨RX1, "ride", "(II)LInnRoad$Ride;"⟩
def dkwX1_ride_1 : List UInt8 := [183, 0, 189, 176]
abbrev dktX1_ride_1 : List UInt8 := dkwX1_ride_1 ++ []
def dkwX1_ride_0 : List UInt8 := [42, 27, 28, 182, 1, 4, 187, 0, 187, 89, 42, 180, 0, 20, 27, 28, 42, 180, 0, 20, 180, 0, 39]
abbrev dktX1_ride_0 : List UInt8 := dkwX1_ride_0 ++ dktX1_ride_1
theorem dksX1_ride_0 : cX1_ride.data.toList.drop 0 = dktX1_ride_0 := by decide +kernel
theorem dksX1_ride_1 : cX1_ride.data.toList.drop 23 = dktX1_ride_1 := dk_seg dksX1_ride_0 23 rfl rfl
theorem dX1_ride_0 : decode cX1_ride 0 = .ok (.aload_n 0, 1) := dk_42 (dk_at dksX1_ride_0 0 rfl rfl)
theorem dX1_ride_1 : decode cX1_ride 1 = .ok (.iload_n 1, 1) := dk_27 (dk_at dksX1_ride_0 1 rfl rfl)
theorem dX1_ride_2 : decode cX1_ride 2 = .ok (.iload_n 2, 1) := dk_28 (dk_at dksX1_ride_0 2 rfl rfl)
theorem dX1_ride_3 : decode cX1_ride 3 = .ok (.invokevirtual 260, 3) := dk_182 1 4 (dk_at dksX1_ride_0 3 rfl rfl)
theorem dX1_ride_6 : decode cX1_ride 6 = .ok (.new 187, 3) := dk_187 0 187 (dk_at dksX1_ride_0 6 rfl rfl)
theorem dX1_ride_9 : decode cX1_ride 9 = .ok (.dup, 1) := dk_89 (dk_at dksX1_ride_0 9 rfl rfl)
theorem dX1_ride_10 : decode cX1_ride 10 = .ok (.aload_n 0, 1) := dk_42 (dk_at dksX1_ride_0 10 rfl rfl)
theorem dX1_ride_11 : decode cX1_ride 11 = .ok (.getfield 20, 3) := dk_180 0 20 (dk_at dksX1_ride_0 11 rfl rfl)
theorem dX1_ride_14 : decode cX1_ride 14 = .ok (.iload_n 1, 1) := dk_27 (dk_at dksX1_ride_0 14 rfl rfl)
theorem dX1_ride_15 : decode cX1_ride 15 = .ok (.iload_n 2, 1) := dk_28 (dk_at dksX1_ride_0 15 rfl rfl)
theorem dX1_ride_16 : decode cX1_ride 16 = .ok (.aload_n 0, 1) := dk_42 (dk_at dksX1_ride_0 16 rfl rfl)
theorem dX1_ride_17 : decode cX1_ride 17 = .ok (.getfield 20, 3) := dk_180 0 20 (dk_at dksX1_ride_0 17 rfl rfl)
theorem dX1_ride_20 : decode cX1_ride 20 = .ok (.getfield 39, 3) := dk_180 0 39 (dk_at dksX1_ride_0 20 rfl rfl)
theorem dX1_ride_23 : decode cX1_ride 23 = .ok (.invokespecial 189, 3) := dk_183 0 189 (dk_at dksX1_ride_1 0 rfl rfl)
theorem dX1_ride_26 : decode cX1_ride 26 = .ok (.areturn, 1) := dk_176 (dk_at dksX1_ride_1 3 rfl rfl)
abbrev cX1_checkInns : ByteArray := prog_1_method_8_code
def yX1_checkInns : MethodName := ⟨RX1, "checkInns", "(II)V"⟩
def dkwX1_checkInns_0 : List UInt8 := [42, 27, 182, 0, 73, 78, 42, 28, 182, 0, 73, 58, 4, 177]
abbrev dktX1_checkInns_0 : List UInt8 := dkwX1_checkInns_0 ++ []
theorem dksX1_checkInns_0 : cX1_checkInns.data.toList.drop 0 = dktX1_checkInns_0 := by decide +kernel
theorem dX1_checkInns_0 : decode cX1_checkInns 0 = .ok (.aload_n 0, 1) := dk_42 (dk_at dksX1_checkInns_0 0 rfl rfl)
theorem dX1_checkInns_1 : decode cX1_checkInns 1 = .ok (.iload_n 1, 1) := dk_27 (dk_at dksX1_checkInns_0 1 rfl rfl)
theorem dX1_checkInns_2 : decode cX1_checkInns 2 = .ok (.invokevirtual 73, 3) := dk_182 0 73 (dk_at dksX1_checkInns_0 2 rfl rfl)
theorem dX1_checkInns_5 : decode cX1_checkInns 5 = .ok (.astore_n 3, 1) := dk_78 (dk_at dksX1_checkInns_0 5 rfl rfl)
theorem dX1_checkInns_6 : decode cX1_checkInns 6 = .ok (.aload_n 0, 1) := dk_42 (dk_at dksX1_checkInns_0 6 rfl rfl)
theorem dX1_checkInns_7 : decode cX1_checkInns 7 = .ok (.iload_n 2, 1) := dk_28 (dk_at dksX1_checkInns_0 7 rfl rfl)
theorem dX1_checkInns_8 : decode cX1_checkInns 8 = .ok (.invokevirtual 73, 3) := dk_182 0 73 (dk_at dksX1_checkInns_0 8 rfl rfl)
theorem dX1_checkInns_11 : decode cX1_checkInns 11 = .ok (.astore 4, 2) := dk_58 4 (dk_at dksX1_checkInns_0 11 rfl rfl)
theorem dX1_checkInns_13 : decode cX1_checkInns 13 = .ok (.return_, 1) := dk_177 (dk_at dksX1_checkInns_0 13 rfl rfl)
abbrev cX1_stages : ByteArray := prog_1_method_67_code
def yX1_stages : MethodName := ⟨RX1, "stages", "(II)I"⟩
def dkwX1_stages_0 : List UInt8 := [42, 27, 28, 182, 1, 8, 78, 45, 180, 0, 192, 153, 0, 10, 45, 180, 0, 198, 167, 0, 4, 2, 172]
abbrev dktX1_stages_0 : List UInt8 := dkwX1_stages_0 ++ []
theorem dksX1_stages_0 : cX1_stages.data.toList.drop 0 = dktX1_stages_0 := by decide +kernel
theorem dX1_stages_0 : decode cX1_stages 0 = .ok (.aload_n 0, 1) := dk_42 (dk_at dksX1_stages_0 0 rfl rfl)
theorem dX1_stages_1 : decode cX1_stages 1 = .ok (.iload_n 1, 1) := dk_27 (dk_at dksX1_stages_0 1 rfl rfl)
theorem dX1_stages_2 : decode cX1_stages 2 = .ok (.iload_n 2, 1) := dk_28 (dk_at dksX1_stages_0 2 rfl rfl)
theorem dX1_stages_3 : decode cX1_stages 3 = .ok (.invokevirtual 264, 3) := dk_182 1 8 (dk_at dksX1_stages_0 3 rfl rfl)
theorem dX1_stages_6 : decode cX1_stages 6 = .ok (.astore_n 3, 1) := dk_78 (dk_at dksX1_stages_0 6 rfl rfl)
theorem dX1_stages_7 : decode cX1_stages 7 = .ok (.aload_n 3, 1) := dk_45 (dk_at dksX1_stages_0 7 rfl rfl)
theorem dX1_stages_8 : decode cX1_stages 8 = .ok (.getfield 192, 3) := dk_180 0 192 (dk_at dksX1_stages_0 8 rfl rfl)
theorem dX1_stages_11 : decode cX1_stages 11 = .ok (.ifCond .eq 10, 3) := dk_153 0 10 (dk_at dksX1_stages_0 11 rfl rfl)
theorem dX1_stages_14 : decode cX1_stages 14 = .ok (.aload_n 3, 1) := dk_45 (dk_at dksX1_stages_0 14 rfl rfl)
theorem dX1_stages_15 : decode cX1_stages 15 = .ok (.getfield 198, 3) := dk_180 0 198 (dk_at dksX1_stages_0 15 rfl rfl)
theorem dX1_stages_18 : decode cX1_stages 18 = .ok (.goto 4, 3) := dk_167 0 4 (dk_at dksX1_stages_0 18 rfl rfl)
theorem dX1_stages_21 : decode cX1_stages 21 = .ok (.iconst (-1), 1) := dk_2 (dk_at dksX1_stages_0 21 rfl rfl)
theorem dX1_stages_22 : decode cX1_stages 22 = .ok (.ireturn, 1) := dk_172 (dk_at dksX1_stages_0 22 rfl rfl)
abbrev cX1_rideLength : ByteArray := prog_1_method_68_code
def yX1_rideLength : MethodName := ⟨RX1, "rideLength", "(II)I"⟩
def dkwX1_rideLength_0 : List UInt8 := [42, 27, 28, 182, 1, 8, 78, 45, 180, 0, 192, 153, 0, 10, 45, 180, 1, 12, 167, 0, 4, 2, 172]
abbrev dktX1_rideLength_0 : List UInt8 := dkwX1_rideLength_0 ++ []
theorem dksX1_rideLength_0 : cX1_rideLength.data.toList.drop 0 = dktX1_rideLength_0 := by decide +kernel
theorem dX1_rideLength_0 : decode cX1_rideLength 0 = .ok (.aload_n 0, 1) := dk_42 (dk_at dksX1_rideLength_0 0 rfl rfl)
theorem dX1_rideLength_1 : decode cX1_rideLength 1 = .ok (.iload_n 1, 1) := dk_27 (dk_at dksX1_rideLength_0 1 rfl rfl)
theorem dX1_rideLength_2 : decode cX1_rideLength 2 = .ok (.iload_n 2, 1) := dk_28 (dk_at dksX1_rideLength_0 2 rfl rfl)
theorem dX1_rideLength_3 : decode cX1_rideLength 3 = .ok (.invokevirtual 264, 3) := dk_182 1 8 (dk_at dksX1_rideLength_0 3 rfl rfl)
theorem dX1_rideLength_6 : decode cX1_rideLength 6 = .ok (.astore_n 3, 1) := dk_78 (dk_at dksX1_rideLength_0 6 rfl rfl)
theorem dX1_rideLength_7 : decode cX1_rideLength 7 = .ok (.aload_n 3, 1) := dk_45 (dk_at dksX1_rideLength_0 7 rfl rfl)
theorem dX1_rideLength_8 : decode cX1_rideLength 8 = .ok (.getfield 192, 3) := dk_180 0 192 (dk_at dksX1_rideLength_0 8 rfl rfl)
theorem dX1_rideLength_11 : decode cX1_rideLength 11 = .ok (.ifCond .eq 10, 3) := dk_153 0 10 (dk_at dksX1_rideLength_0 11 rfl rfl)
theorem dX1_rideLength_14 : decode cX1_rideLength 14 = .ok (.aload_n 3, 1) := dk_45 (dk_at dksX1_rideLength_0 14 rfl rfl)
theorem dX1_rideLength_15 : decode cX1_rideLength 15 = .ok (.getfield 268, 3) := dk_180 1 12 (dk_at dksX1_rideLength_0 15 rfl rfl)
theorem dX1_rideLength_18 : decode cX1_rideLength 18 = .ok (.goto 4, 3) := dk_167 0 4 (dk_at dksX1_rideLength_0 18 rfl rfl)
theorem dX1_rideLength_21 : decode cX1_rideLength 21 = .ok (.iconst (-1), 1) := dk_2 (dk_at dksX1_rideLength_0 21 rfl rfl)
theorem dX1_rideLength_22 : decode cX1_rideLength 22 = .ok (.ireturn, 1) := dk_172 (dk_at dksX1_rideLength_0 22 rfl rfl)
abbrev cX1_stuckAt : ByteArray := prog_1_method_69_code
def yX1_stuckAt : MethodName := ⟨RX1, "stuckAt", "(II)I"⟩
def dkwX1_stuckAt_0 : List UInt8 := [42, 27, 28, 182, 1, 8, 78, 45, 180, 1, 15, 153, 0, 10, 45, 180, 1, 18, 167, 0, 4, 2, 172]
abbrev dktX1_stuckAt_0 : List UInt8 := dkwX1_stuckAt_0 ++ []
theorem dksX1_stuckAt_0 : cX1_stuckAt.data.toList.drop 0 = dktX1_stuckAt_0 := by decide +kernel
theorem dX1_stuckAt_0 : decode cX1_stuckAt 0 = .ok (.aload_n 0, 1) := dk_42 (dk_at dksX1_stuckAt_0 0 rfl rfl)
theorem dX1_stuckAt_1 : decode cX1_stuckAt 1 = .ok (.iload_n 1, 1) := dk_27 (dk_at dksX1_stuckAt_0 1 rfl rfl)
theorem dX1_stuckAt_2 : decode cX1_stuckAt 2 = .ok (.iload_n 2, 1) := dk_28 (dk_at dksX1_stuckAt_0 2 rfl rfl)
theorem dX1_stuckAt_3 : decode cX1_stuckAt 3 = .ok (.invokevirtual 264, 3) := dk_182 1 8 (dk_at dksX1_stuckAt_0 3 rfl rfl)
theorem dX1_stuckAt_6 : decode cX1_stuckAt 6 = .ok (.astore_n 3, 1) := dk_78 (dk_at dksX1_stuckAt_0 6 rfl rfl)
theorem dX1_stuckAt_7 : decode cX1_stuckAt 7 = .ok (.aload_n 3, 1) := dk_45 (dk_at dksX1_stuckAt_0 7 rfl rfl)
theorem dX1_stuckAt_8 : decode cX1_stuckAt 8 = .ok (.getfield 271, 3) := dk_180 1 15 (dk_at dksX1_stuckAt_0 8 rfl rfl)
theorem dX1_stuckAt_11 : decode cX1_stuckAt 11 = .ok (.ifCond .eq 10, 3) := dk_153 0 10 (dk_at dksX1_stuckAt_0 11 rfl rfl)
theorem dX1_stuckAt_14 : decode cX1_stuckAt 14 = .ok (.aload_n 3, 1) := dk_45 (dk_at dksX1_stuckAt_0 14 rfl rfl)
theorem dX1_stuckAt_15 : decode cX1_stuckAt 15 = .ok (.getfield 274, 3) := dk_180 1 18 (dk_at dksX1_stuckAt_0 15 rfl rfl)
theorem dX1_stuckAt_18 : decode cX1_stuckAt 18 = .ok (.goto 4, 3) := dk_167 0 4 (dk_at dksX1_stuckAt_0 18 rfl rfl)
theorem dX1_stuckAt_21 : decode cX1_stuckAt 21 = .ok (.iconst (-1), 1) := dk_2 (dk_at dksX1_stuckAt_0 21 rfl rfl)
theorem dX1_stuckAt_22 : decode cX1_stuckAt 22 = .ok (.ireturn, 1) := dk_172 (dk_at dksX1_stuckAt_0 22 rfl rfl)
abbrev cX1_neededInns : ByteArray := prog_1_method_71_code
def yX1_neededInns : MethodName := ⟨RX1, "neededInns", "(II)I"⟩
def dkwX1_neededInns_4 : List UInt8 := [3, 96, 62, 132, 4, 1, 167, 255, 174, 29, 172]
abbrev dktX1_neededInns_4 : List UInt8 := dkwX1_neededInns_4 ++ []
def dkwX1_neededInns_3 : List UInt8 := [54, 5, 29, 21, 5, 153, 0, 19, 42, 27, 28, 21, 4, 3, 182, 1, 21, 154, 0, 7, 4, 167, 0, 4]
abbrev dktX1_neededInns_3 : List UInt8 := dkwX1_neededInns_3 ++ dktX1_neededInns_4
def dkwX1_neededInns_2 : List UInt8 := [153, 0, 23, 42, 180, 0, 20, 180, 0, 43, 21, 4, 50, 180, 0, 138, 153, 0, 7, 4, 167, 0, 4, 3]
abbrev dktX1_neededInns_2 : List UInt8 := dkwX1_neededInns_2 ++ dktX1_neededInns_3
def dkwX1_neededInns_1 : List UInt8 := [162, 0, 81, 21, 4, 27, 159, 0, 41, 21, 4, 28, 159, 0, 35, 42, 180, 0, 20, 21, 4, 182, 0, 65]
abbrev dktX1_neededInns_1 : List UInt8 := dkwX1_neededInns_1 ++ dktX1_neededInns_2
def dkwX1_neededInns_0 : List UInt8 := [42, 27, 28, 182, 1, 8, 180, 0, 192, 154, 0, 5, 3, 172, 3, 62, 3, 54, 4, 21, 4, 16, 12]
abbrev dktX1_neededInns_0 : List UInt8 := dkwX1_neededInns_0 ++ dktX1_neededInns_1
theorem dksX1_neededInns_0 : cX1_neededInns.data.toList.drop 0 = dktX1_neededInns_0 := by decide +kernel
theorem dksX1_neededInns_1 : cX1_neededInns.data.toList.drop 23 = dktX1_neededInns_1 := dk_seg dksX1_neededInns_0 23 rfl rfl
theorem dksX1_neededInns_2 : cX1_neededInns.data.toList.drop 47 = dktX1_neededInns_2 := dk_seg dksX1_neededInns_1 24 rfl rfl
theorem dksX1_neededInns_3 : cX1_neededInns.data.toList.drop 71 = dktX1_neededInns_3 := dk_seg dksX1_neededInns_2 24 rfl rfl
theorem dksX1_neededInns_4 : cX1_neededInns.data.toList.drop 95 = dktX1_neededInns_4 := dk_seg dksX1_neededInns_3 24 rfl rfl
theorem dX1_neededInns_0 : decode cX1_neededInns 0 = .ok (.aload_n 0, 1) := dk_42 (dk_at dksX1_neededInns_0 0 rfl rfl)
theorem dX1_neededInns_1 : decode cX1_neededInns 1 = .ok (.iload_n 1, 1) := dk_27 (dk_at dksX1_neededInns_0 1 rfl rfl)
theorem dX1_neededInns_2 : decode cX1_neededInns 2 = .ok (.iload_n 2, 1) := dk_28 (dk_at dksX1_neededInns_0 2 rfl rfl)
theorem dX1_neededInns_3 : decode cX1_neededInns 3 = .ok (.invokevirtual 264, 3) := dk_182 1 8 (dk_at dksX1_neededInns_0 3 rfl rfl)
theorem dX1_neededInns_6 : decode cX1_neededInns 6 = .ok (.getfield 192, 3) := dk_180 0 192 (dk_at dksX1_neededInns_0 6 rfl rfl)
theorem dX1_neededInns_9 : decode cX1_neededInns 9 = .ok (.ifCond .ne 5, 3) := dk_154 0 5 (dk_at dksX1_neededInns_0 9 rfl rfl)
theorem dX1_neededInns_12 : decode cX1_neededInns 12 = .ok (.iconst 0, 1) := dk_3 (dk_at dksX1_neededInns_0 12 rfl rfl)
theorem dX1_neededInns_13 : decode cX1_neededInns 13 = .ok (.ireturn, 1) := dk_172 (dk_at dksX1_neededInns_0 13 rfl rfl)
theorem dX1_neededInns_14 : decode cX1_neededInns 14 = .ok (.iconst 0, 1) := dk_3 (dk_at dksX1_neededInns_0 14 rfl rfl)
theorem dX1_neededInns_15 : decode cX1_neededInns 15 = .ok (.istore_n 3, 1) := dk_62 (dk_at dksX1_neededInns_0 15 rfl rfl)
theorem dX1_neededInns_16 : decode cX1_neededInns 16 = .ok (.iconst 0, 1) := dk_3 (dk_at dksX1_neededInns_0 16 rfl rfl)
theorem dX1_neededInns_17 : decode cX1_neededInns 17 = .ok (.istore 4, 2) := dk_54 4 (dk_at dksX1_neededInns_0 17 rfl rfl)
theorem dX1_neededInns_19 : decode cX1_neededInns 19 = .ok (.iload 4, 2) := dk_21 4 (dk_at dksX1_neededInns_0 19 rfl rfl)
theorem dX1_neededInns_21 : decode cX1_neededInns 21 = .ok (.bipush 12, 2) := dk_16 12 (dk_at dksX1_neededInns_0 21 rfl rfl)
theorem dX1_neededInns_23 : decode cX1_neededInns 23 = .ok (.if_icmp .ge 81, 3) := dk_162 0 81 (dk_at dksX1_neededInns_1 0 rfl rfl)
theorem dX1_neededInns_26 : decode cX1_neededInns 26 = .ok (.iload 4, 2) := dk_21 4 (dk_at dksX1_neededInns_1 3 rfl rfl)
theorem dX1_neededInns_28 : decode cX1_neededInns 28 = .ok (.iload_n 1, 1) := dk_27 (dk_at dksX1_neededInns_1 5 rfl rfl)
theorem dX1_neededInns_29 : decode cX1_neededInns 29 = .ok (.if_icmp .eq 41, 3) := dk_159 0 41 (dk_at dksX1_neededInns_1 6 rfl rfl)
theorem dX1_neededInns_32 : decode cX1_neededInns 32 = .ok (.iload 4, 2) := dk_21 4 (dk_at dksX1_neededInns_1 9 rfl rfl)
theorem dX1_neededInns_34 : decode cX1_neededInns 34 = .ok (.iload_n 2, 1) := dk_28 (dk_at dksX1_neededInns_1 11 rfl rfl)
theorem dX1_neededInns_35 : decode cX1_neededInns 35 = .ok (.if_icmp .eq 35, 3) := dk_159 0 35 (dk_at dksX1_neededInns_1 12 rfl rfl)
theorem dX1_neededInns_38 : decode cX1_neededInns 38 = .ok (.aload_n 0, 1) := dk_42 (dk_at dksX1_neededInns_1 15 rfl rfl)
theorem dX1_neededInns_39 : decode cX1_neededInns 39 = .ok (.getfield 20, 3) := dk_180 0 20 (dk_at dksX1_neededInns_1 16 rfl rfl)
theorem dX1_neededInns_42 : decode cX1_neededInns 42 = .ok (.iload 4, 2) := dk_21 4 (dk_at dksX1_neededInns_1 19 rfl rfl)
theorem dX1_neededInns_44 : decode cX1_neededInns 44 = .ok (.invokevirtual 65, 3) := dk_182 0 65 (dk_at dksX1_neededInns_1 21 rfl rfl)
theorem dX1_neededInns_47 : decode cX1_neededInns 47 = .ok (.ifCond .eq 23, 3) := dk_153 0 23 (dk_at dksX1_neededInns_2 0 rfl rfl)
theorem dX1_neededInns_50 : decode cX1_neededInns 50 = .ok (.aload_n 0, 1) := dk_42 (dk_at dksX1_neededInns_2 3 rfl rfl)
theorem dX1_neededInns_51 : decode cX1_neededInns 51 = .ok (.getfield 20, 3) := dk_180 0 20 (dk_at dksX1_neededInns_2 4 rfl rfl)
theorem dX1_neededInns_54 : decode cX1_neededInns 54 = .ok (.getfield 43, 3) := dk_180 0 43 (dk_at dksX1_neededInns_2 7 rfl rfl)
theorem dX1_neededInns_57 : decode cX1_neededInns 57 = .ok (.iload 4, 2) := dk_21 4 (dk_at dksX1_neededInns_2 10 rfl rfl)
theorem dX1_neededInns_59 : decode cX1_neededInns 59 = .ok (.aaload, 1) := dk_50 (dk_at dksX1_neededInns_2 12 rfl rfl)
theorem dX1_neededInns_60 : decode cX1_neededInns 60 = .ok (.getfield 138, 3) := dk_180 0 138 (dk_at dksX1_neededInns_2 13 rfl rfl)
theorem dX1_neededInns_63 : decode cX1_neededInns 63 = .ok (.ifCond .eq 7, 3) := dk_153 0 7 (dk_at dksX1_neededInns_2 16 rfl rfl)
theorem dX1_neededInns_66 : decode cX1_neededInns 66 = .ok (.iconst 1, 1) := dk_4 (dk_at dksX1_neededInns_2 19 rfl rfl)
theorem dX1_neededInns_67 : decode cX1_neededInns 67 = .ok (.goto 4, 3) := dk_167 0 4 (dk_at dksX1_neededInns_2 20 rfl rfl)
theorem dX1_neededInns_70 : decode cX1_neededInns 70 = .ok (.iconst 0, 1) := dk_3 (dk_at dksX1_neededInns_2 23 rfl rfl)
theorem dX1_neededInns_71 : decode cX1_neededInns 71 = .ok (.istore 5, 2) := dk_54 5 (dk_at dksX1_neededInns_3 0 rfl rfl)
theorem dX1_neededInns_73 : decode cX1_neededInns 73 = .ok (.iload_n 3, 1) := dk_29 (dk_at dksX1_neededInns_3 2 rfl rfl)
theorem dX1_neededInns_74 : decode cX1_neededInns 74 = .ok (.iload 5, 2) := dk_21 5 (dk_at dksX1_neededInns_3 3 rfl rfl)
theorem dX1_neededInns_76 : decode cX1_neededInns 76 = .ok (.ifCond .eq 19, 3) := dk_153 0 19 (dk_at dksX1_neededInns_3 5 rfl rfl)
theorem dX1_neededInns_79 : decode cX1_neededInns 79 = .ok (.aload_n 0, 1) := dk_42 (dk_at dksX1_neededInns_3 8 rfl rfl)
theorem dX1_neededInns_80 : decode cX1_neededInns 80 = .ok (.iload_n 1, 1) := dk_27 (dk_at dksX1_neededInns_3 9 rfl rfl)
theorem dX1_neededInns_81 : decode cX1_neededInns 81 = .ok (.iload_n 2, 1) := dk_28 (dk_at dksX1_neededInns_3 10 rfl rfl)
theorem dX1_neededInns_82 : decode cX1_neededInns 82 = .ok (.iload 4, 2) := dk_21 4 (dk_at dksX1_neededInns_3 11 rfl rfl)
theorem dX1_neededInns_84 : decode cX1_neededInns 84 = .ok (.iconst 0, 1) := dk_3 (dk_at dksX1_neededInns_3 13 rfl rfl)
theorem dX1_neededInns_85 : decode cX1_neededInns 85 = .ok (.invokevirtual 277, 3) := dk_182 1 21 (dk_at dksX1_neededInns_3 14 rfl rfl)
theorem dX1_neededInns_88 : decode cX1_neededInns 88 = .ok (.ifCond .ne 7, 3) := dk_154 0 7 (dk_at dksX1_neededInns_3 17 rfl rfl)
theorem dX1_neededInns_91 : decode cX1_neededInns 91 = .ok (.iconst 1, 1) := dk_4 (dk_at dksX1_neededInns_3 20 rfl rfl)
theorem dX1_neededInns_92 : decode cX1_neededInns 92 = .ok (.goto 4, 3) := dk_167 0 4 (dk_at dksX1_neededInns_3 21 rfl rfl)
theorem dX1_neededInns_95 : decode cX1_neededInns 95 = .ok (.iconst 0, 1) := dk_3 (dk_at dksX1_neededInns_4 0 rfl rfl)
theorem dX1_neededInns_96 : decode cX1_neededInns 96 = .ok (.iadd, 1) := dk_96 (dk_at dksX1_neededInns_4 1 rfl rfl)
theorem dX1_neededInns_97 : decode cX1_neededInns 97 = .ok (.istore_n 3, 1) := dk_62 (dk_at dksX1_neededInns_4 2 rfl rfl)
theorem dX1_neededInns_98 : decode cX1_neededInns 98 = .ok (.iinc 4 1, 3) := dk_132 4 1 (dk_at dksX1_neededInns_4 3 rfl rfl)
theorem dX1_neededInns_101 : decode cX1_neededInns 101 = .ok (.goto (-82), 3) := dk_167 255 174 (dk_at dksX1_neededInns_4 6 rfl rfl)
theorem dX1_neededInns_104 : decode cX1_neededInns 104 = .ok (.iload_n 3, 1) := dk_29 (dk_at dksX1_neededInns_4 9 rfl rfl)
theorem dX1_neededInns_105 : decode cX1_neededInns 105 = .ok (.ireturn, 1) := dk_172 (dk_at dksX1_neededInns_4 10 rfl rfl)
abbrev cX1_isReachableIf : ByteArray := prog_1_method_70_code
def yX1_isReachableIf : MethodName := ⟨RX1, "isReachableIf", "(IIIZ)Z"⟩
def dkwX1_isReachableIf_2 : List UInt8 := [180, 0, 192, 172]
abbrev dktX1_isReachableIf_2 : List UInt8 := dkwX1_isReachableIf_2 ++ []
def dkwX1_isReachableIf_1 : List UInt8 := [182, 0, 134, 83, 187, 0, 187, 89, 25, 5, 27, 28, 42, 180, 0, 20, 180, 0, 39, 183, 0, 189]
abbrev dktX1_isReachableIf_1 : List UInt8 := dkwX1_isReachableIf_1 ++ dktX1_isReachableIf_2
def dkwX1_isReachableIf_0 : List UInt8 := [42, 180, 0, 20, 182, 0, 81, 58, 5, 25, 5, 180, 0, 43, 29, 25, 5, 180, 0, 43, 29, 50, 21, 4]
abbrev dktX1_isReachableIf_0 : List UInt8 := dkwX1_isReachableIf_0 ++ dktX1_isReachableIf_1
theorem dksX1_isReachableIf_0 : cX1_isReachableIf.data.toList.drop 0 = dktX1_isReachableIf_0 := by decide +kernel
theorem dksX1_isReachableIf_1 : cX1_isReachableIf.data.toList.drop 24 = dktX1_isReachableIf_1 := dk_seg dksX1_isReachableIf_0 24 rfl rfl
theorem dksX1_isReachableIf_2 : cX1_isReachableIf.data.toList.drop 46 = dktX1_isReachableIf_2 := dk_seg dksX1_isReachableIf_1 22 rfl rfl
theorem dX1_isReachableIf_0 : decode cX1_isReachableIf 0 = .ok (.aload_n 0, 1) := dk_42 (dk_at dksX1_isReachableIf_0 0 rfl rfl)
theorem dX1_isReachableIf_1 : decode cX1_isReachableIf 1 = .ok (.getfield 20, 3) := dk_180 0 20 (dk_at dksX1_isReachableIf_0 1 rfl rfl)
theorem dX1_isReachableIf_4 : decode cX1_isReachableIf 4 = .ok (.invokevirtual 81, 3) := dk_182 0 81 (dk_at dksX1_isReachableIf_0 4 rfl rfl)
theorem dX1_isReachableIf_7 : decode cX1_isReachableIf 7 = .ok (.astore 5, 2) := dk_58 5 (dk_at dksX1_isReachableIf_0 7 rfl rfl)
theorem dX1_isReachableIf_9 : decode cX1_isReachableIf 9 = .ok (.aload 5, 2) := dk_25 5 (dk_at dksX1_isReachableIf_0 9 rfl rfl)
theorem dX1_isReachableIf_11 : decode cX1_isReachableIf 11 = .ok (.getfield 43, 3) := dk_180 0 43 (dk_at dksX1_isReachableIf_0 11 rfl rfl)
theorem dX1_isReachableIf_14 : decode cX1_isReachableIf 14 = .ok (.iload_n 3, 1) := dk_29 (dk_at dksX1_isReachableIf_0 14 rfl rfl)
theorem dX1_isReachableIf_15 : decode cX1_isReachableIf 15 = .ok (.aload 5, 2) := dk_25 5 (dk_at dksX1_isReachableIf_0 15 rfl rfl)
theorem dX1_isReachableIf_17 : decode cX1_isReachableIf 17 = .ok (.getfield 43, 3) := dk_180 0 43 (dk_at dksX1_isReachableIf_0 17 rfl rfl)
theorem dX1_isReachableIf_20 : decode cX1_isReachableIf 20 = .ok (.iload_n 3, 1) := dk_29 (dk_at dksX1_isReachableIf_0 20 rfl rfl)
theorem dX1_isReachableIf_21 : decode cX1_isReachableIf 21 = .ok (.aaload, 1) := dk_50 (dk_at dksX1_isReachableIf_0 21 rfl rfl)
theorem dX1_isReachableIf_22 : decode cX1_isReachableIf 22 = .ok (.iload 4, 2) := dk_21 4 (dk_at dksX1_isReachableIf_0 22 rfl rfl)
theorem dX1_isReachableIf_24 : decode cX1_isReachableIf 24 = .ok (.invokevirtual 134, 3) := dk_182 0 134 (dk_at dksX1_isReachableIf_1 0 rfl rfl)
theorem dX1_isReachableIf_27 : decode cX1_isReachableIf 27 = .ok (.aastore, 1) := dk_83 (dk_at dksX1_isReachableIf_1 3 rfl rfl)
theorem dX1_isReachableIf_28 : decode cX1_isReachableIf 28 = .ok (.new 187, 3) := dk_187 0 187 (dk_at dksX1_isReachableIf_1 4 rfl rfl)
theorem dX1_isReachableIf_31 : decode cX1_isReachableIf 31 = .ok (.dup, 1) := dk_89 (dk_at dksX1_isReachableIf_1 7 rfl rfl)
theorem dX1_isReachableIf_32 : decode cX1_isReachableIf 32 = .ok (.aload 5, 2) := dk_25 5 (dk_at dksX1_isReachableIf_1 8 rfl rfl)
theorem dX1_isReachableIf_34 : decode cX1_isReachableIf 34 = .ok (.iload_n 1, 1) := dk_27 (dk_at dksX1_isReachableIf_1 10 rfl rfl)
theorem dX1_isReachableIf_35 : decode cX1_isReachableIf 35 = .ok (.iload_n 2, 1) := dk_28 (dk_at dksX1_isReachableIf_1 11 rfl rfl)
theorem dX1_isReachableIf_36 : decode cX1_isReachableIf 36 = .ok (.aload_n 0, 1) := dk_42 (dk_at dksX1_isReachableIf_1 12 rfl rfl)
theorem dX1_isReachableIf_37 : decode cX1_isReachableIf 37 = .ok (.getfield 20, 3) := dk_180 0 20 (dk_at dksX1_isReachableIf_1 13 rfl rfl)
theorem dX1_isReachableIf_40 : decode cX1_isReachableIf 40 = .ok (.getfield 39, 3) := dk_180 0 39 (dk_at dksX1_isReachableIf_1 16 rfl rfl)
theorem dX1_isReachableIf_43 : decode cX1_isReachableIf 43 = .ok (.invokespecial 189, 3) := dk_183 0 189 (dk_at dksX1_isReachableIf_1 19 rfl rfl)
theorem dX1_isReachableIf_46 : decode cX1_isReachableIf 46 = .ok (.getfield 192, 3) := dk_180 0 192 (dk_at dksX1_isReachableIf_2 0 rfl rfl)
theorem dX1_isReachableIf_49 : decode cX1_isReachableIf 49 = .ok (.ireturn, 1) := dk_172 (dk_at dksX1_isReachableIf_2 3 rfl rfl)
abbrev cX1_leastRange : ByteArray := prog_1_method_72_code
def yX1_leastRange : MethodName := ⟨RX1, "leastRange", "(II)I"⟩
def dkwX1_leastRange_1 : List UInt8 := [28, 29, 183, 0, 189, 180, 0, 192, 153, 0, 5, 29, 172, 132, 3, 1, 167, 255, 224, 2, 172]
abbrev dktX1_leastRange_1 : List UInt8 := dkwX1_leastRange_1 ++ []
def dkwX1_leastRange_0 : List UInt8 := [42, 27, 28, 182, 1, 4, 4, 62, 29, 17, 3, 231, 163, 0, 31, 187, 0, 187, 89, 42, 180, 0, 20, 27]
abbrev dktX1_leastRange_0 : List UInt8 := dkwX1_leastRange_0 ++ dktX1_leastRange_1
theorem dksX1_leastRange_0 : cX1_leastRange.data.toList.drop 0 = dktX1_leastRange_0 := by decide +kernel
theorem dksX1_leastRange_1 : cX1_leastRange.data.toList.drop 24 = dktX1_leastRange_1 := dk_seg dksX1_leastRange_0 24 rfl rfl
theorem dX1_leastRange_0 : decode cX1_leastRange 0 = .ok (.aload_n 0, 1) := dk_42 (dk_at dksX1_leastRange_0 0 rfl rfl)
theorem dX1_leastRange_1 : decode cX1_leastRange 1 = .ok (.iload_n 1, 1) := dk_27 (dk_at dksX1_leastRange_0 1 rfl rfl)
theorem dX1_leastRange_2 : decode cX1_leastRange 2 = .ok (.iload_n 2, 1) := dk_28 (dk_at dksX1_leastRange_0 2 rfl rfl)
theorem dX1_leastRange_3 : decode cX1_leastRange 3 = .ok (.invokevirtual 260, 3) := dk_182 1 4 (dk_at dksX1_leastRange_0 3 rfl rfl)
theorem dX1_leastRange_6 : decode cX1_leastRange 6 = .ok (.iconst 1, 1) := dk_4 (dk_at dksX1_leastRange_0 6 rfl rfl)
theorem dX1_leastRange_7 : decode cX1_leastRange 7 = .ok (.istore_n 3, 1) := dk_62 (dk_at dksX1_leastRange_0 7 rfl rfl)
theorem dX1_leastRange_8 : decode cX1_leastRange 8 = .ok (.iload_n 3, 1) := dk_29 (dk_at dksX1_leastRange_0 8 rfl rfl)
theorem dX1_leastRange_9 : decode cX1_leastRange 9 = .ok (.sipush 999, 3) := dk_17 3 231 (dk_at dksX1_leastRange_0 9 rfl rfl)
theorem dX1_leastRange_12 : decode cX1_leastRange 12 = .ok (.if_icmp .gt 31, 3) := dk_163 0 31 (dk_at dksX1_leastRange_0 12 rfl rfl)
theorem dX1_leastRange_15 : decode cX1_leastRange 15 = .ok (.new 187, 3) := dk_187 0 187 (dk_at dksX1_leastRange_0 15 rfl rfl)
theorem dX1_leastRange_18 : decode cX1_leastRange 18 = .ok (.dup, 1) := dk_89 (dk_at dksX1_leastRange_0 18 rfl rfl)
theorem dX1_leastRange_19 : decode cX1_leastRange 19 = .ok (.aload_n 0, 1) := dk_42 (dk_at dksX1_leastRange_0 19 rfl rfl)
theorem dX1_leastRange_20 : decode cX1_leastRange 20 = .ok (.getfield 20, 3) := dk_180 0 20 (dk_at dksX1_leastRange_0 20 rfl rfl)
theorem dX1_leastRange_23 : decode cX1_leastRange 23 = .ok (.iload_n 1, 1) := dk_27 (dk_at dksX1_leastRange_0 23 rfl rfl)
theorem dX1_leastRange_24 : decode cX1_leastRange 24 = .ok (.iload_n 2, 1) := dk_28 (dk_at dksX1_leastRange_1 0 rfl rfl)
theorem dX1_leastRange_25 : decode cX1_leastRange 25 = .ok (.iload_n 3, 1) := dk_29 (dk_at dksX1_leastRange_1 1 rfl rfl)
theorem dX1_leastRange_26 : decode cX1_leastRange 26 = .ok (.invokespecial 189, 3) := dk_183 0 189 (dk_at dksX1_leastRange_1 2 rfl rfl)
theorem dX1_leastRange_29 : decode cX1_leastRange 29 = .ok (.getfield 192, 3) := dk_180 0 192 (dk_at dksX1_leastRange_1 5 rfl rfl)
theorem dX1_leastRange_32 : decode cX1_leastRange 32 = .ok (.ifCond .eq 5, 3) := dk_153 0 5 (dk_at dksX1_leastRange_1 8 rfl rfl)
theorem dX1_leastRange_35 : decode cX1_leastRange 35 = .ok (.iload_n 3, 1) := dk_29 (dk_at dksX1_leastRange_1 11 rfl rfl)
theorem dX1_leastRange_36 : decode cX1_leastRange 36 = .ok (.ireturn, 1) := dk_172 (dk_at dksX1_leastRange_1 12 rfl rfl)
theorem dX1_leastRange_37 : decode cX1_leastRange 37 = .ok (.iinc 3 1, 3) := dk_132 3 1 (dk_at dksX1_leastRange_1 13 rfl rfl)
theorem dX1_leastRange_40 : decode cX1_leastRange 40 = .ok (.goto (-32), 3) := dk_167 255 224 (dk_at dksX1_leastRange_1 16 rfl rfl)
theorem dX1_leastRange_43 : decode cX1_leastRange 43 = .ok (.iconst (-1), 1) := dk_2 (dk_at dksX1_leastRange_1 19 rfl rfl)
theorem dX1_leastRange_44 : decode cX1_leastRange 44 = .ok (.ireturn, 1) := dk_172 (dk_at dksX1_leastRange_1 20 rfl rfl)
abbrev cX1_helpfulOpening : ByteArray := prog_1_method_73_code
def yX1_helpfulOpening : MethodName := ⟨RX1, "helpfulOpening", "(II)I"⟩
def dkwX1_helpfulOpening_3 : List UInt8 := [153, 0, 5, 29, 172, 132, 3, 1, 167, 255, 196, 2, 172]
abbrev dktX1_helpfulOpening_3 : List UInt8 := dkwX1_helpfulOpening_3 ++ []
def dkwX1_helpfulOpening_2 : List UInt8 := [154, 0, 7, 4, 167, 0, 4, 3, 54, 4, 21, 4, 153, 0, 16, 42, 27, 28, 29, 4, 182, 1, 21]
abbrev dktX1_helpfulOpening_2 : List UInt8 := dkwX1_helpfulOpening_2 ++ dktX1_helpfulOpening_3
def dkwX1_helpfulOpening_1 : List UInt8 := [180, 0, 20, 29, 182, 0, 65, 153, 0, 22, 42, 180, 0, 20, 180, 0, 43, 29, 50, 180, 0, 138]
abbrev dktX1_helpfulOpening_1 : List UInt8 := dkwX1_helpfulOpening_1 ++ dktX1_helpfulOpening_2
def dkwX1_helpfulOpening_0 : List UInt8 := [42, 27, 28, 182, 1, 8, 180, 0, 192, 153, 0, 5, 2, 172, 3, 62, 29, 16, 12, 162, 0, 60, 42]
abbrev dktX1_helpfulOpening_0 : List UInt8 := dkwX1_helpfulOpening_0 ++ dktX1_helpfulOpening_1
theorem dksX1_helpfulOpening_0 : cX1_helpfulOpening.data.toList.drop 0 = dktX1_helpfulOpening_0 := by decide +kernel
theorem dksX1_helpfulOpening_1 : cX1_helpfulOpening.data.toList.drop 23 = dktX1_helpfulOpening_1 := dk_seg dksX1_helpfulOpening_0 23 rfl rfl
theorem dksX1_helpfulOpening_2 : cX1_helpfulOpening.data.toList.drop 45 = dktX1_helpfulOpening_2 := dk_seg dksX1_helpfulOpening_1 22 rfl rfl
theorem dksX1_helpfulOpening_3 : cX1_helpfulOpening.data.toList.drop 68 = dktX1_helpfulOpening_3 := dk_seg dksX1_helpfulOpening_2 23 rfl rfl
theorem dX1_helpfulOpening_0 : decode cX1_helpfulOpening 0 = .ok (.aload_n 0, 1) := dk_42 (dk_at dksX1_helpfulOpening_0 0 rfl rfl)
theorem dX1_helpfulOpening_1 : decode cX1_helpfulOpening 1 = .ok (.iload_n 1, 1) := dk_27 (dk_at dksX1_helpfulOpening_0 1 rfl rfl)
theorem dX1_helpfulOpening_2 : decode cX1_helpfulOpening 2 = .ok (.iload_n 2, 1) := dk_28 (dk_at dksX1_helpfulOpening_0 2 rfl rfl)
theorem dX1_helpfulOpening_3 : decode cX1_helpfulOpening 3 = .ok (.invokevirtual 264, 3) := dk_182 1 8 (dk_at dksX1_helpfulOpening_0 3 rfl rfl)
theorem dX1_helpfulOpening_6 : decode cX1_helpfulOpening 6 = .ok (.getfield 192, 3) := dk_180 0 192 (dk_at dksX1_helpfulOpening_0 6 rfl rfl)
theorem dX1_helpfulOpening_9 : decode cX1_helpfulOpening 9 = .ok (.ifCond .eq 5, 3) := dk_153 0 5 (dk_at dksX1_helpfulOpening_0 9 rfl rfl)
theorem dX1_helpfulOpening_12 : decode cX1_helpfulOpening 12 = .ok (.iconst (-1), 1) := dk_2 (dk_at dksX1_helpfulOpening_0 12 rfl rfl)
theorem dX1_helpfulOpening_13 : decode cX1_helpfulOpening 13 = .ok (.ireturn, 1) := dk_172 (dk_at dksX1_helpfulOpening_0 13 rfl rfl)
theorem dX1_helpfulOpening_14 : decode cX1_helpfulOpening 14 = .ok (.iconst 0, 1) := dk_3 (dk_at dksX1_helpfulOpening_0 14 rfl rfl)
theorem dX1_helpfulOpening_15 : decode cX1_helpfulOpening 15 = .ok (.istore_n 3, 1) := dk_62 (dk_at dksX1_helpfulOpening_0 15 rfl rfl)
theorem dX1_helpfulOpening_16 : decode cX1_helpfulOpening 16 = .ok (.iload_n 3, 1) := dk_29 (dk_at dksX1_helpfulOpening_0 16 rfl rfl)
theorem dX1_helpfulOpening_17 : decode cX1_helpfulOpening 17 = .ok (.bipush 12, 2) := dk_16 12 (dk_at dksX1_helpfulOpening_0 17 rfl rfl)
theorem dX1_helpfulOpening_19 : decode cX1_helpfulOpening 19 = .ok (.if_icmp .ge 60, 3) := dk_162 0 60 (dk_at dksX1_helpfulOpening_0 19 rfl rfl)
theorem dX1_helpfulOpening_22 : decode cX1_helpfulOpening 22 = .ok (.aload_n 0, 1) := dk_42 (dk_at dksX1_helpfulOpening_0 22 rfl rfl)
theorem dX1_helpfulOpening_23 : decode cX1_helpfulOpening 23 = .ok (.getfield 20, 3) := dk_180 0 20 (dk_at dksX1_helpfulOpening_1 0 rfl rfl)
theorem dX1_helpfulOpening_26 : decode cX1_helpfulOpening 26 = .ok (.iload_n 3, 1) := dk_29 (dk_at dksX1_helpfulOpening_1 3 rfl rfl)
theorem dX1_helpfulOpening_27 : decode cX1_helpfulOpening 27 = .ok (.invokevirtual 65, 3) := dk_182 0 65 (dk_at dksX1_helpfulOpening_1 4 rfl rfl)
theorem dX1_helpfulOpening_30 : decode cX1_helpfulOpening 30 = .ok (.ifCond .eq 22, 3) := dk_153 0 22 (dk_at dksX1_helpfulOpening_1 7 rfl rfl)
theorem dX1_helpfulOpening_33 : decode cX1_helpfulOpening 33 = .ok (.aload_n 0, 1) := dk_42 (dk_at dksX1_helpfulOpening_1 10 rfl rfl)
theorem dX1_helpfulOpening_34 : decode cX1_helpfulOpening 34 = .ok (.getfield 20, 3) := dk_180 0 20 (dk_at dksX1_helpfulOpening_1 11 rfl rfl)
theorem dX1_helpfulOpening_37 : decode cX1_helpfulOpening 37 = .ok (.getfield 43, 3) := dk_180 0 43 (dk_at dksX1_helpfulOpening_1 14 rfl rfl)
theorem dX1_helpfulOpening_40 : decode cX1_helpfulOpening 40 = .ok (.iload_n 3, 1) := dk_29 (dk_at dksX1_helpfulOpening_1 17 rfl rfl)
theorem dX1_helpfulOpening_41 : decode cX1_helpfulOpening 41 = .ok (.aaload, 1) := dk_50 (dk_at dksX1_helpfulOpening_1 18 rfl rfl)
theorem dX1_helpfulOpening_42 : decode cX1_helpfulOpening 42 = .ok (.getfield 138, 3) := dk_180 0 138 (dk_at dksX1_helpfulOpening_1 19 rfl rfl)
theorem dX1_helpfulOpening_45 : decode cX1_helpfulOpening 45 = .ok (.ifCond .ne 7, 3) := dk_154 0 7 (dk_at dksX1_helpfulOpening_2 0 rfl rfl)
theorem dX1_helpfulOpening_48 : decode cX1_helpfulOpening 48 = .ok (.iconst 1, 1) := dk_4 (dk_at dksX1_helpfulOpening_2 3 rfl rfl)
theorem dX1_helpfulOpening_49 : decode cX1_helpfulOpening 49 = .ok (.goto 4, 3) := dk_167 0 4 (dk_at dksX1_helpfulOpening_2 4 rfl rfl)
theorem dX1_helpfulOpening_52 : decode cX1_helpfulOpening 52 = .ok (.iconst 0, 1) := dk_3 (dk_at dksX1_helpfulOpening_2 7 rfl rfl)
theorem dX1_helpfulOpening_53 : decode cX1_helpfulOpening 53 = .ok (.istore 4, 2) := dk_54 4 (dk_at dksX1_helpfulOpening_2 8 rfl rfl)
theorem dX1_helpfulOpening_55 : decode cX1_helpfulOpening 55 = .ok (.iload 4, 2) := dk_21 4 (dk_at dksX1_helpfulOpening_2 10 rfl rfl)
theorem dX1_helpfulOpening_57 : decode cX1_helpfulOpening 57 = .ok (.ifCond .eq 16, 3) := dk_153 0 16 (dk_at dksX1_helpfulOpening_2 12 rfl rfl)
theorem dX1_helpfulOpening_60 : decode cX1_helpfulOpening 60 = .ok (.aload_n 0, 1) := dk_42 (dk_at dksX1_helpfulOpening_2 15 rfl rfl)
theorem dX1_helpfulOpening_61 : decode cX1_helpfulOpening 61 = .ok (.iload_n 1, 1) := dk_27 (dk_at dksX1_helpfulOpening_2 16 rfl rfl)
theorem dX1_helpfulOpening_62 : decode cX1_helpfulOpening 62 = .ok (.iload_n 2, 1) := dk_28 (dk_at dksX1_helpfulOpening_2 17 rfl rfl)
theorem dX1_helpfulOpening_63 : decode cX1_helpfulOpening 63 = .ok (.iload_n 3, 1) := dk_29 (dk_at dksX1_helpfulOpening_2 18 rfl rfl)
theorem dX1_helpfulOpening_64 : decode cX1_helpfulOpening 64 = .ok (.iconst 1, 1) := dk_4 (dk_at dksX1_helpfulOpening_2 19 rfl rfl)
theorem dX1_helpfulOpening_65 : decode cX1_helpfulOpening 65 = .ok (.invokevirtual 277, 3) := dk_182 1 21 (dk_at dksX1_helpfulOpening_2 20 rfl rfl)
theorem dX1_helpfulOpening_68 : decode cX1_helpfulOpening 68 = .ok (.ifCond .eq 5, 3) := dk_153 0 5 (dk_at dksX1_helpfulOpening_3 0 rfl rfl)
theorem dX1_helpfulOpening_71 : decode cX1_helpfulOpening 71 = .ok (.iload_n 3, 1) := dk_29 (dk_at dksX1_helpfulOpening_3 3 rfl rfl)
theorem dX1_helpfulOpening_72 : decode cX1_helpfulOpening 72 = .ok (.ireturn, 1) := dk_172 (dk_at dksX1_helpfulOpening_3 4 rfl rfl)
theorem dX1_helpfulOpening_73 : decode cX1_helpfulOpening 73 = .ok (.iinc 3 1, 3) := dk_132 3 1 (dk_at dksX1_helpfulOpening_3 5 rfl rfl)
theorem dX1_helpfulOpening_76 : decode cX1_helpfulOpening 76 = .ok (.goto (-60), 3) := dk_167 255 196 (dk_at dksX1_helpfulOpening_3 8 rfl rfl)
theorem dX1_helpfulOpening_79 : decode cX1_helpfulOpening 79 = .ok (.iconst (-1), 1) := dk_2 (dk_at dksX1_helpfulOpening_3 11 rfl rfl)
theorem dX1_helpfulOpening_80 : decode cX1_helpfulOpening 80 = .ok (.ireturn, 1) := dk_172 (dk_at dksX1_helpfulOpening_3 12 rfl rfl)
abbrev cX1_reachableInns : ByteArray := prog_1_method_74_code
def yX1_reachableInns : MethodName := ⟨RX1, "reachableInns", "(I)I"⟩
def dkwX1_reachableInns_3 : List UInt8 := [167, 255, 199, 29, 172]
abbrev dktX1_reachableInns_3 : List UInt8 := dkwX1_reachableInns_3 ++ []
def dkwX1_reachableInns_2 : List UInt8 := [180, 0, 39, 183, 0, 189, 180, 0, 192, 153, 0, 7, 4, 167, 0, 4, 3, 96, 62, 132, 4, 1]
abbrev dktX1_reachableInns_2 : List UInt8 := dkwX1_reachableInns_2 ++ dktX1_reachableInns_3
def dkwX1_reachableInns_1 : List UInt8 := [21, 4, 182, 0, 65, 153, 0, 34, 187, 0, 187, 89, 42, 180, 0, 20, 27, 21, 4, 42, 180, 0, 20]
abbrev dktX1_reachableInns_1 : List UInt8 := dkwX1_reachableInns_1 ++ dktX1_reachableInns_2
def dkwX1_reachableInns_0 : List UInt8 := [42, 27, 182, 0, 73, 77, 3, 62, 3, 54, 4, 21, 4, 16, 12, 162, 0, 56, 29, 42, 180, 0, 20]
abbrev dktX1_reachableInns_0 : List UInt8 := dkwX1_reachableInns_0 ++ dktX1_reachableInns_1
theorem dksX1_reachableInns_0 : cX1_reachableInns.data.toList.drop 0 = dktX1_reachableInns_0 := by decide +kernel
theorem dksX1_reachableInns_1 : cX1_reachableInns.data.toList.drop 23 = dktX1_reachableInns_1 := dk_seg dksX1_reachableInns_0 23 rfl rfl
theorem dksX1_reachableInns_2 : cX1_reachableInns.data.toList.drop 46 = dktX1_reachableInns_2 := dk_seg dksX1_reachableInns_1 23 rfl rfl
theorem dksX1_reachableInns_3 : cX1_reachableInns.data.toList.drop 68 = dktX1_reachableInns_3 := dk_seg dksX1_reachableInns_2 22 rfl rfl
theorem dX1_reachableInns_0 : decode cX1_reachableInns 0 = .ok (.aload_n 0, 1) := dk_42 (dk_at dksX1_reachableInns_0 0 rfl rfl)
theorem dX1_reachableInns_1 : decode cX1_reachableInns 1 = .ok (.iload_n 1, 1) := dk_27 (dk_at dksX1_reachableInns_0 1 rfl rfl)
theorem dX1_reachableInns_2 : decode cX1_reachableInns 2 = .ok (.invokevirtual 73, 3) := dk_182 0 73 (dk_at dksX1_reachableInns_0 2 rfl rfl)
theorem dX1_reachableInns_5 : decode cX1_reachableInns 5 = .ok (.astore_n 2, 1) := dk_77 (dk_at dksX1_reachableInns_0 5 rfl rfl)
theorem dX1_reachableInns_6 : decode cX1_reachableInns 6 = .ok (.iconst 0, 1) := dk_3 (dk_at dksX1_reachableInns_0 6 rfl rfl)
theorem dX1_reachableInns_7 : decode cX1_reachableInns 7 = .ok (.istore_n 3, 1) := dk_62 (dk_at dksX1_reachableInns_0 7 rfl rfl)
theorem dX1_reachableInns_8 : decode cX1_reachableInns 8 = .ok (.iconst 0, 1) := dk_3 (dk_at dksX1_reachableInns_0 8 rfl rfl)
theorem dX1_reachableInns_9 : decode cX1_reachableInns 9 = .ok (.istore 4, 2) := dk_54 4 (dk_at dksX1_reachableInns_0 9 rfl rfl)
theorem dX1_reachableInns_11 : decode cX1_reachableInns 11 = .ok (.iload 4, 2) := dk_21 4 (dk_at dksX1_reachableInns_0 11 rfl rfl)
theorem dX1_reachableInns_13 : decode cX1_reachableInns 13 = .ok (.bipush 12, 2) := dk_16 12 (dk_at dksX1_reachableInns_0 13 rfl rfl)
theorem dX1_reachableInns_15 : decode cX1_reachableInns 15 = .ok (.if_icmp .ge 56, 3) := dk_162 0 56 (dk_at dksX1_reachableInns_0 15 rfl rfl)
theorem dX1_reachableInns_18 : decode cX1_reachableInns 18 = .ok (.iload_n 3, 1) := dk_29 (dk_at dksX1_reachableInns_0 18 rfl rfl)
theorem dX1_reachableInns_19 : decode cX1_reachableInns 19 = .ok (.aload_n 0, 1) := dk_42 (dk_at dksX1_reachableInns_0 19 rfl rfl)
theorem dX1_reachableInns_20 : decode cX1_reachableInns 20 = .ok (.getfield 20, 3) := dk_180 0 20 (dk_at dksX1_reachableInns_0 20 rfl rfl)
theorem dX1_reachableInns_23 : decode cX1_reachableInns 23 = .ok (.iload 4, 2) := dk_21 4 (dk_at dksX1_reachableInns_1 0 rfl rfl)
theorem dX1_reachableInns_25 : decode cX1_reachableInns 25 = .ok (.invokevirtual 65, 3) := dk_182 0 65 (dk_at dksX1_reachableInns_1 2 rfl rfl)
theorem dX1_reachableInns_28 : decode cX1_reachableInns 28 = .ok (.ifCond .eq 34, 3) := dk_153 0 34 (dk_at dksX1_reachableInns_1 5 rfl rfl)
theorem dX1_reachableInns_31 : decode cX1_reachableInns 31 = .ok (.new 187, 3) := dk_187 0 187 (dk_at dksX1_reachableInns_1 8 rfl rfl)
theorem dX1_reachableInns_34 : decode cX1_reachableInns 34 = .ok (.dup, 1) := dk_89 (dk_at dksX1_reachableInns_1 11 rfl rfl)
theorem dX1_reachableInns_35 : decode cX1_reachableInns 35 = .ok (.aload_n 0, 1) := dk_42 (dk_at dksX1_reachableInns_1 12 rfl rfl)
theorem dX1_reachableInns_36 : decode cX1_reachableInns 36 = .ok (.getfield 20, 3) := dk_180 0 20 (dk_at dksX1_reachableInns_1 13 rfl rfl)
theorem dX1_reachableInns_39 : decode cX1_reachableInns 39 = .ok (.iload_n 1, 1) := dk_27 (dk_at dksX1_reachableInns_1 16 rfl rfl)
theorem dX1_reachableInns_40 : decode cX1_reachableInns 40 = .ok (.iload 4, 2) := dk_21 4 (dk_at dksX1_reachableInns_1 17 rfl rfl)
theorem dX1_reachableInns_42 : decode cX1_reachableInns 42 = .ok (.aload_n 0, 1) := dk_42 (dk_at dksX1_reachableInns_1 19 rfl rfl)
theorem dX1_reachableInns_43 : decode cX1_reachableInns 43 = .ok (.getfield 20, 3) := dk_180 0 20 (dk_at dksX1_reachableInns_1 20 rfl rfl)
theorem dX1_reachableInns_46 : decode cX1_reachableInns 46 = .ok (.getfield 39, 3) := dk_180 0 39 (dk_at dksX1_reachableInns_2 0 rfl rfl)
theorem dX1_reachableInns_49 : decode cX1_reachableInns 49 = .ok (.invokespecial 189, 3) := dk_183 0 189 (dk_at dksX1_reachableInns_2 3 rfl rfl)
theorem dX1_reachableInns_52 : decode cX1_reachableInns 52 = .ok (.getfield 192, 3) := dk_180 0 192 (dk_at dksX1_reachableInns_2 6 rfl rfl)
theorem dX1_reachableInns_55 : decode cX1_reachableInns 55 = .ok (.ifCond .eq 7, 3) := dk_153 0 7 (dk_at dksX1_reachableInns_2 9 rfl rfl)
theorem dX1_reachableInns_58 : decode cX1_reachableInns 58 = .ok (.iconst 1, 1) := dk_4 (dk_at dksX1_reachableInns_2 12 rfl rfl)
theorem dX1_reachableInns_59 : decode cX1_reachableInns 59 = .ok (.goto 4, 3) := dk_167 0 4 (dk_at dksX1_reachableInns_2 13 rfl rfl)
theorem dX1_reachableInns_62 : decode cX1_reachableInns 62 = .ok (.iconst 0, 1) := dk_3 (dk_at dksX1_reachableInns_2 16 rfl rfl)
theorem dX1_reachableInns_63 : decode cX1_reachableInns 63 = .ok (.iadd, 1) := dk_96 (dk_at dksX1_reachableInns_2 17 rfl rfl)
theorem dX1_reachableInns_64 : decode cX1_reachableInns 64 = .ok (.istore_n 3, 1) := dk_62 (dk_at dksX1_reachableInns_2 18 rfl rfl)
theorem dX1_reachableInns_65 : decode cX1_reachableInns 65 = .ok (.iinc 4 1, 3) := dk_132 4 1 (dk_at dksX1_reachableInns_2 19 rfl rfl)
theorem dX1_reachableInns_68 : decode cX1_reachableInns 68 = .ok (.goto (-57), 3) := dk_167 255 199 (dk_at dksX1_reachableInns_3 0 rfl rfl)
theorem dX1_reachableInns_71 : decode cX1_reachableInns 71 = .ok (.iload_n 3, 1) := dk_29 (dk_at dksX1_reachableInns_3 3 rfl rfl)
theorem dX1_reachableInns_72 : decode cX1_reachableInns 72 = .ok (.ireturn, 1) := dk_172 (dk_at dksX1_reachableInns_3 4 rfl rfl)
abbrev cX1_skippingStages : ByteArray := prog_1_method_75_code
def yX1_skippingStages : MethodName := ⟨RX1, "skippingStages", "(II)I"⟩
def dkwX1_skippingStages_0 : List UInt8 := [42, 27, 28, 182, 1, 8, 78, 45, 180, 0, 192, 153, 0, 10, 45, 180, 1, 25, 167, 0, 4, 2, 172]
abbrev dktX1_skippingStages_0 : List UInt8 := dkwX1_skippingStages_0 ++ []
theorem dksX1_skippingStages_0 : cX1_skippingStages.data.toList.drop 0 = dktX1_skippingStages_0 := by decide +kernel
theorem dX1_skippingStages_0 : decode cX1_skippingStages 0 = .ok (.aload_n 0, 1) := dk_42 (dk_at dksX1_skippingStages_0 0 rfl rfl)
theorem dX1_skippingStages_1 : decode cX1_skippingStages 1 = .ok (.iload_n 1, 1) := dk_27 (dk_at dksX1_skippingStages_0 1 rfl rfl)
theorem dX1_skippingStages_2 : decode cX1_skippingStages 2 = .ok (.iload_n 2, 1) := dk_28 (dk_at dksX1_skippingStages_0 2 rfl rfl)
theorem dX1_skippingStages_3 : decode cX1_skippingStages 3 = .ok (.invokevirtual 264, 3) := dk_182 1 8 (dk_at dksX1_skippingStages_0 3 rfl rfl)
theorem dX1_skippingStages_6 : decode cX1_skippingStages 6 = .ok (.astore_n 3, 1) := dk_78 (dk_at dksX1_skippingStages_0 6 rfl rfl)
theorem dX1_skippingStages_7 : decode cX1_skippingStages 7 = .ok (.aload_n 3, 1) := dk_45 (dk_at dksX1_skippingStages_0 7 rfl rfl)
theorem dX1_skippingStages_8 : decode cX1_skippingStages 8 = .ok (.getfield 192, 3) := dk_180 0 192 (dk_at dksX1_skippingStages_0 8 rfl rfl)
theorem dX1_skippingStages_11 : decode cX1_skippingStages 11 = .ok (.ifCond .eq 10, 3) := dk_153 0 10 (dk_at dksX1_skippingStages_0 11 rfl rfl)
theorem dX1_skippingStages_14 : decode cX1_skippingStages 14 = .ok (.aload_n 3, 1) := dk_45 (dk_at dksX1_skippingStages_0 14 rfl rfl)
theorem dX1_skippingStages_15 : decode cX1_skippingStages 15 = .ok (.getfield 281, 3) := dk_180 1 25 (dk_at dksX1_skippingStages_0 15 rfl rfl)
theorem dX1_skippingStages_18 : decode cX1_skippingStages 18 = .ok (.goto 4, 3) := dk_167 0 4 (dk_at dksX1_skippingStages_0 18 rfl rfl)
theorem dX1_skippingStages_21 : decode cX1_skippingStages 21 = .ok (.iconst (-1), 1) := dk_2 (dk_at dksX1_skippingStages_0 21 rfl rfl)
theorem dX1_skippingStages_22 : decode cX1_skippingStages 22 = .ok (.ireturn, 1) := dk_172 (dk_at dksX1_skippingStages_0 22 rfl rfl)
abbrev cX1_nearestOpenInn : ByteArray := prog_1_method_76_code
def yX1_nearestOpenInn : MethodName := ⟨RX1, "nearestOpenInn", "(I)I"⟩
def dkwX1_nearestOpenInn_4 : List UInt8 := [182, 0, 228, 42, 180, 0, 20, 27, 29, 182, 0, 228, 162, 0, 6, 21, 5, 62, 167, 255, 167, 29, 172]
abbrev dktX1_nearestOpenInn_4 : List UInt8 := dkwX1_nearestOpenInn_4 ++ []
def dkwX1_nearestOpenInn_3 : List UInt8 := [167, 0, 4, 3, 54, 6, 21, 6, 153, 0, 33, 29, 2, 159, 0, 25, 42, 180, 0, 20, 27, 21, 5]
abbrev dktX1_nearestOpenInn_3 : List UInt8 := dkwX1_nearestOpenInn_3 ++ dktX1_nearestOpenInn_4
def dkwX1_nearestOpenInn_2 : List UInt8 := [21, 5, 27, 159, 0, 23, 42, 180, 0, 20, 180, 0, 43, 21, 5, 50, 180, 0, 138, 153, 0, 7, 4]
abbrev dktX1_nearestOpenInn_2 : List UInt8 := dkwX1_nearestOpenInn_2 ++ dktX1_nearestOpenInn_3
def dkwX1_nearestOpenInn_1 : List UInt8 := [185, 1, 32, 1, 0, 153, 0, 85, 25, 4, 185, 1, 37, 1, 0, 192, 0, 223, 182, 0, 225, 54, 5]
abbrev dktX1_nearestOpenInn_1 : List UInt8 := dkwX1_nearestOpenInn_1 ++ dktX1_nearestOpenInn_2
def dkwX1_nearestOpenInn_0 : List UInt8 := [42, 27, 182, 0, 73, 77, 2, 62, 42, 180, 0, 20, 182, 0, 212, 185, 1, 28, 1, 0, 58, 4, 25, 4]
abbrev dktX1_nearestOpenInn_0 : List UInt8 := dkwX1_nearestOpenInn_0 ++ dktX1_nearestOpenInn_1
theorem dksX1_nearestOpenInn_0 : cX1_nearestOpenInn.data.toList.drop 0 = dktX1_nearestOpenInn_0 := by decide +kernel
theorem dksX1_nearestOpenInn_1 : cX1_nearestOpenInn.data.toList.drop 24 = dktX1_nearestOpenInn_1 := dk_seg dksX1_nearestOpenInn_0 24 rfl rfl
theorem dksX1_nearestOpenInn_2 : cX1_nearestOpenInn.data.toList.drop 47 = dktX1_nearestOpenInn_2 := dk_seg dksX1_nearestOpenInn_1 23 rfl rfl
theorem dksX1_nearestOpenInn_3 : cX1_nearestOpenInn.data.toList.drop 70 = dktX1_nearestOpenInn_3 := dk_seg dksX1_nearestOpenInn_2 23 rfl rfl
theorem dksX1_nearestOpenInn_4 : cX1_nearestOpenInn.data.toList.drop 93 = dktX1_nearestOpenInn_4 := dk_seg dksX1_nearestOpenInn_3 23 rfl rfl
theorem dX1_nearestOpenInn_0 : decode cX1_nearestOpenInn 0 = .ok (.aload_n 0, 1) := dk_42 (dk_at dksX1_nearestOpenInn_0 0 rfl rfl)
theorem dX1_nearestOpenInn_1 : decode cX1_nearestOpenInn 1 = .ok (.iload_n 1, 1) := dk_27 (dk_at dksX1_nearestOpenInn_0 1 rfl rfl)
theorem dX1_nearestOpenInn_2 : decode cX1_nearestOpenInn 2 = .ok (.invokevirtual 73, 3) := dk_182 0 73 (dk_at dksX1_nearestOpenInn_0 2 rfl rfl)
theorem dX1_nearestOpenInn_5 : decode cX1_nearestOpenInn 5 = .ok (.astore_n 2, 1) := dk_77 (dk_at dksX1_nearestOpenInn_0 5 rfl rfl)
theorem dX1_nearestOpenInn_6 : decode cX1_nearestOpenInn 6 = .ok (.iconst (-1), 1) := dk_2 (dk_at dksX1_nearestOpenInn_0 6 rfl rfl)
theorem dX1_nearestOpenInn_7 : decode cX1_nearestOpenInn 7 = .ok (.istore_n 3, 1) := dk_62 (dk_at dksX1_nearestOpenInn_0 7 rfl rfl)
theorem dX1_nearestOpenInn_8 : decode cX1_nearestOpenInn 8 = .ok (.aload_n 0, 1) := dk_42 (dk_at dksX1_nearestOpenInn_0 8 rfl rfl)
theorem dX1_nearestOpenInn_9 : decode cX1_nearestOpenInn 9 = .ok (.getfield 20, 3) := dk_180 0 20 (dk_at dksX1_nearestOpenInn_0 9 rfl rfl)
theorem dX1_nearestOpenInn_12 : decode cX1_nearestOpenInn 12 = .ok (.invokevirtual 212, 3) := dk_182 0 212 (dk_at dksX1_nearestOpenInn_0 12 rfl rfl)
theorem dX1_nearestOpenInn_15 : decode cX1_nearestOpenInn 15 = .ok (.invokeinterface 284 1, 5) := by decide +kernel
theorem dX1_nearestOpenInn_20 : decode cX1_nearestOpenInn 20 = .ok (.astore 4, 2) := dk_58 4 (dk_at dksX1_nearestOpenInn_0 20 rfl rfl)
theorem dX1_nearestOpenInn_22 : decode cX1_nearestOpenInn 22 = .ok (.aload 4, 2) := dk_25 4 (dk_at dksX1_nearestOpenInn_0 22 rfl rfl)
theorem dX1_nearestOpenInn_24 : decode cX1_nearestOpenInn 24 = .ok (.invokeinterface 288 1, 5) := by decide +kernel
theorem dX1_nearestOpenInn_29 : decode cX1_nearestOpenInn 29 = .ok (.ifCond .eq 85, 3) := dk_153 0 85 (dk_at dksX1_nearestOpenInn_1 5 rfl rfl)
theorem dX1_nearestOpenInn_32 : decode cX1_nearestOpenInn 32 = .ok (.aload 4, 2) := dk_25 4 (dk_at dksX1_nearestOpenInn_1 8 rfl rfl)
theorem dX1_nearestOpenInn_34 : decode cX1_nearestOpenInn 34 = .ok (.invokeinterface 293 1, 5) := by decide +kernel
theorem dX1_nearestOpenInn_39 : decode cX1_nearestOpenInn 39 = .ok (.checkcast 223, 3) := dk_192 0 223 (dk_at dksX1_nearestOpenInn_1 15 rfl rfl)
theorem dX1_nearestOpenInn_42 : decode cX1_nearestOpenInn 42 = .ok (.invokevirtual 225, 3) := dk_182 0 225 (dk_at dksX1_nearestOpenInn_1 18 rfl rfl)
theorem dX1_nearestOpenInn_45 : decode cX1_nearestOpenInn 45 = .ok (.istore 5, 2) := dk_54 5 (dk_at dksX1_nearestOpenInn_1 21 rfl rfl)
theorem dX1_nearestOpenInn_47 : decode cX1_nearestOpenInn 47 = .ok (.iload 5, 2) := dk_21 5 (dk_at dksX1_nearestOpenInn_2 0 rfl rfl)
theorem dX1_nearestOpenInn_49 : decode cX1_nearestOpenInn 49 = .ok (.iload_n 1, 1) := dk_27 (dk_at dksX1_nearestOpenInn_2 2 rfl rfl)
theorem dX1_nearestOpenInn_50 : decode cX1_nearestOpenInn 50 = .ok (.if_icmp .eq 23, 3) := dk_159 0 23 (dk_at dksX1_nearestOpenInn_2 3 rfl rfl)
theorem dX1_nearestOpenInn_53 : decode cX1_nearestOpenInn 53 = .ok (.aload_n 0, 1) := dk_42 (dk_at dksX1_nearestOpenInn_2 6 rfl rfl)
theorem dX1_nearestOpenInn_54 : decode cX1_nearestOpenInn 54 = .ok (.getfield 20, 3) := dk_180 0 20 (dk_at dksX1_nearestOpenInn_2 7 rfl rfl)
theorem dX1_nearestOpenInn_57 : decode cX1_nearestOpenInn 57 = .ok (.getfield 43, 3) := dk_180 0 43 (dk_at dksX1_nearestOpenInn_2 10 rfl rfl)
theorem dX1_nearestOpenInn_60 : decode cX1_nearestOpenInn 60 = .ok (.iload 5, 2) := dk_21 5 (dk_at dksX1_nearestOpenInn_2 13 rfl rfl)
theorem dX1_nearestOpenInn_62 : decode cX1_nearestOpenInn 62 = .ok (.aaload, 1) := dk_50 (dk_at dksX1_nearestOpenInn_2 15 rfl rfl)
theorem dX1_nearestOpenInn_63 : decode cX1_nearestOpenInn 63 = .ok (.getfield 138, 3) := dk_180 0 138 (dk_at dksX1_nearestOpenInn_2 16 rfl rfl)
theorem dX1_nearestOpenInn_66 : decode cX1_nearestOpenInn 66 = .ok (.ifCond .eq 7, 3) := dk_153 0 7 (dk_at dksX1_nearestOpenInn_2 19 rfl rfl)
theorem dX1_nearestOpenInn_69 : decode cX1_nearestOpenInn 69 = .ok (.iconst 1, 1) := dk_4 (dk_at dksX1_nearestOpenInn_2 22 rfl rfl)
theorem dX1_nearestOpenInn_70 : decode cX1_nearestOpenInn 70 = .ok (.goto 4, 3) := dk_167 0 4 (dk_at dksX1_nearestOpenInn_3 0 rfl rfl)
theorem dX1_nearestOpenInn_73 : decode cX1_nearestOpenInn 73 = .ok (.iconst 0, 1) := dk_3 (dk_at dksX1_nearestOpenInn_3 3 rfl rfl)
theorem dX1_nearestOpenInn_74 : decode cX1_nearestOpenInn 74 = .ok (.istore 6, 2) := dk_54 6 (dk_at dksX1_nearestOpenInn_3 4 rfl rfl)
theorem dX1_nearestOpenInn_76 : decode cX1_nearestOpenInn 76 = .ok (.iload 6, 2) := dk_21 6 (dk_at dksX1_nearestOpenInn_3 6 rfl rfl)
theorem dX1_nearestOpenInn_78 : decode cX1_nearestOpenInn 78 = .ok (.ifCond .eq 33, 3) := dk_153 0 33 (dk_at dksX1_nearestOpenInn_3 8 rfl rfl)
theorem dX1_nearestOpenInn_81 : decode cX1_nearestOpenInn 81 = .ok (.iload_n 3, 1) := dk_29 (dk_at dksX1_nearestOpenInn_3 11 rfl rfl)
theorem dX1_nearestOpenInn_82 : decode cX1_nearestOpenInn 82 = .ok (.iconst (-1), 1) := dk_2 (dk_at dksX1_nearestOpenInn_3 12 rfl rfl)
theorem dX1_nearestOpenInn_83 : decode cX1_nearestOpenInn 83 = .ok (.if_icmp .eq 25, 3) := dk_159 0 25 (dk_at dksX1_nearestOpenInn_3 13 rfl rfl)
theorem dX1_nearestOpenInn_86 : decode cX1_nearestOpenInn 86 = .ok (.aload_n 0, 1) := dk_42 (dk_at dksX1_nearestOpenInn_3 16 rfl rfl)
theorem dX1_nearestOpenInn_87 : decode cX1_nearestOpenInn 87 = .ok (.getfield 20, 3) := dk_180 0 20 (dk_at dksX1_nearestOpenInn_3 17 rfl rfl)
theorem dX1_nearestOpenInn_90 : decode cX1_nearestOpenInn 90 = .ok (.iload_n 1, 1) := dk_27 (dk_at dksX1_nearestOpenInn_3 20 rfl rfl)
theorem dX1_nearestOpenInn_91 : decode cX1_nearestOpenInn 91 = .ok (.iload 5, 2) := dk_21 5 (dk_at dksX1_nearestOpenInn_3 21 rfl rfl)
theorem dX1_nearestOpenInn_93 : decode cX1_nearestOpenInn 93 = .ok (.invokevirtual 228, 3) := dk_182 0 228 (dk_at dksX1_nearestOpenInn_4 0 rfl rfl)
theorem dX1_nearestOpenInn_96 : decode cX1_nearestOpenInn 96 = .ok (.aload_n 0, 1) := dk_42 (dk_at dksX1_nearestOpenInn_4 3 rfl rfl)
theorem dX1_nearestOpenInn_97 : decode cX1_nearestOpenInn 97 = .ok (.getfield 20, 3) := dk_180 0 20 (dk_at dksX1_nearestOpenInn_4 4 rfl rfl)
theorem dX1_nearestOpenInn_100 : decode cX1_nearestOpenInn 100 = .ok (.iload_n 1, 1) := dk_27 (dk_at dksX1_nearestOpenInn_4 7 rfl rfl)
theorem dX1_nearestOpenInn_101 : decode cX1_nearestOpenInn 101 = .ok (.iload_n 3, 1) := dk_29 (dk_at dksX1_nearestOpenInn_4 8 rfl rfl)
theorem dX1_nearestOpenInn_102 : decode cX1_nearestOpenInn 102 = .ok (.invokevirtual 228, 3) := dk_182 0 228 (dk_at dksX1_nearestOpenInn_4 9 rfl rfl)
theorem dX1_nearestOpenInn_105 : decode cX1_nearestOpenInn 105 = .ok (.if_icmp .ge 6, 3) := dk_162 0 6 (dk_at dksX1_nearestOpenInn_4 12 rfl rfl)
theorem dX1_nearestOpenInn_108 : decode cX1_nearestOpenInn 108 = .ok (.iload 5, 2) := dk_21 5 (dk_at dksX1_nearestOpenInn_4 15 rfl rfl)
theorem dX1_nearestOpenInn_110 : decode cX1_nearestOpenInn 110 = .ok (.istore_n 3, 1) := dk_62 (dk_at dksX1_nearestOpenInn_4 17 rfl rfl)
theorem dX1_nearestOpenInn_111 : decode cX1_nearestOpenInn 111 = .ok (.goto (-89), 3) := dk_167 255 167 (dk_at dksX1_nearestOpenInn_4 18 rfl rfl)
theorem dX1_nearestOpenInn_114 : decode cX1_nearestOpenInn 114 = .ok (.iload_n 3, 1) := dk_29 (dk_at dksX1_nearestOpenInn_4 21 rfl rfl)
theorem dX1_nearestOpenInn_115 : decode cX1_nearestOpenInn 115 = .ok (.ireturn, 1) := dk_172 (dk_at dksX1_nearestOpenInn_4 22 rfl rfl)
abbrev cX1_written : ByteArray := prog_1_method_81_code
def yX1_written : MethodName := ⟨RX1, "written", "(I)I"⟩
def dkwX1_written_3 : List UInt8 := [172]
abbrev dktX1_written_3 : List UInt8 := dkwX1_written_3 ++ []
def dkwX1_written_2 : List UInt8 := [162, 0, 14, 42, 180, 0, 35, 29, 182, 1, 95, 167, 0, 4, 3, 128, 61, 132, 3, 1, 167, 255, 215, 28]
abbrev dktX1_written_2 : List UInt8 := dkwX1_written_2 ++ dktX1_written_3
def dkwX1_written_1 : List UInt8 := [27, 104, 62, 29, 7, 27, 104, 7, 96, 162, 0, 38, 28, 16, 8, 120, 29, 42, 180, 0, 35, 182, 1, 91]
abbrev dktX1_written_1 : List UInt8 := dkwX1_written_1 ++ dktX1_written_2
def dkwX1_written_0 : List UInt8 := [27, 3, 42, 180, 0, 35, 182, 1, 91, 6, 96, 7, 108, 4, 100, 184, 0, 3, 184, 0, 69, 3, 61, 7]
abbrev dktX1_written_0 : List UInt8 := dkwX1_written_0 ++ dktX1_written_1
theorem dksX1_written_0 : cX1_written.data.toList.drop 0 = dktX1_written_0 := by decide +kernel
theorem dksX1_written_1 : cX1_written.data.toList.drop 24 = dktX1_written_1 := dk_seg dksX1_written_0 24 rfl rfl
theorem dksX1_written_2 : cX1_written.data.toList.drop 48 = dktX1_written_2 := dk_seg dksX1_written_1 24 rfl rfl
theorem dksX1_written_3 : cX1_written.data.toList.drop 72 = dktX1_written_3 := dk_seg dksX1_written_2 24 rfl rfl
theorem dX1_written_0 : decode cX1_written 0 = .ok (.iload_n 1, 1) := dk_27 (dk_at dksX1_written_0 0 rfl rfl)
theorem dX1_written_1 : decode cX1_written 1 = .ok (.iconst 0, 1) := dk_3 (dk_at dksX1_written_0 1 rfl rfl)
theorem dX1_written_2 : decode cX1_written 2 = .ok (.aload_n 0, 1) := dk_42 (dk_at dksX1_written_0 2 rfl rfl)
theorem dX1_written_3 : decode cX1_written 3 = .ok (.getfield 35, 3) := dk_180 0 35 (dk_at dksX1_written_0 3 rfl rfl)
theorem dX1_written_6 : decode cX1_written 6 = .ok (.invokevirtual 347, 3) := dk_182 1 91 (dk_at dksX1_written_0 6 rfl rfl)
theorem dX1_written_9 : decode cX1_written 9 = .ok (.iconst 3, 1) := dk_6 (dk_at dksX1_written_0 9 rfl rfl)
theorem dX1_written_10 : decode cX1_written 10 = .ok (.iadd, 1) := dk_96 (dk_at dksX1_written_0 10 rfl rfl)
theorem dX1_written_11 : decode cX1_written 11 = .ok (.iconst 4, 1) := dk_7 (dk_at dksX1_written_0 11 rfl rfl)
theorem dX1_written_12 : decode cX1_written 12 = .ok (.idiv, 1) := dk_108 (dk_at dksX1_written_0 12 rfl rfl)
theorem dX1_written_13 : decode cX1_written 13 = .ok (.iconst 1, 1) := dk_4 (dk_at dksX1_written_0 13 rfl rfl)
theorem dX1_written_14 : decode cX1_written 14 = .ok (.isub, 1) := dk_100 (dk_at dksX1_written_0 14 rfl rfl)
theorem dX1_written_15 : decode cX1_written 15 = .ok (.invokestatic 3, 3) := dk_184 0 3 (dk_at dksX1_written_0 15 rfl rfl)
theorem dX1_written_18 : decode cX1_written 18 = .ok (.invokestatic 69, 3) := dk_184 0 69 (dk_at dksX1_written_0 18 rfl rfl)
theorem dX1_written_21 : decode cX1_written 21 = .ok (.iconst 0, 1) := dk_3 (dk_at dksX1_written_0 21 rfl rfl)
theorem dX1_written_22 : decode cX1_written 22 = .ok (.istore_n 2, 1) := dk_61 (dk_at dksX1_written_0 22 rfl rfl)
theorem dX1_written_23 : decode cX1_written 23 = .ok (.iconst 4, 1) := dk_7 (dk_at dksX1_written_0 23 rfl rfl)
theorem dX1_written_24 : decode cX1_written 24 = .ok (.iload_n 1, 1) := dk_27 (dk_at dksX1_written_1 0 rfl rfl)
theorem dX1_written_25 : decode cX1_written 25 = .ok (.imul, 1) := dk_104 (dk_at dksX1_written_1 1 rfl rfl)
theorem dX1_written_26 : decode cX1_written 26 = .ok (.istore_n 3, 1) := dk_62 (dk_at dksX1_written_1 2 rfl rfl)
theorem dX1_written_27 : decode cX1_written 27 = .ok (.iload_n 3, 1) := dk_29 (dk_at dksX1_written_1 3 rfl rfl)
theorem dX1_written_28 : decode cX1_written 28 = .ok (.iconst 4, 1) := dk_7 (dk_at dksX1_written_1 4 rfl rfl)
theorem dX1_written_29 : decode cX1_written 29 = .ok (.iload_n 1, 1) := dk_27 (dk_at dksX1_written_1 5 rfl rfl)
theorem dX1_written_30 : decode cX1_written 30 = .ok (.imul, 1) := dk_104 (dk_at dksX1_written_1 6 rfl rfl)
theorem dX1_written_31 : decode cX1_written 31 = .ok (.iconst 4, 1) := dk_7 (dk_at dksX1_written_1 7 rfl rfl)
theorem dX1_written_32 : decode cX1_written 32 = .ok (.iadd, 1) := dk_96 (dk_at dksX1_written_1 8 rfl rfl)
theorem dX1_written_33 : decode cX1_written 33 = .ok (.if_icmp .ge 38, 3) := dk_162 0 38 (dk_at dksX1_written_1 9 rfl rfl)
theorem dX1_written_36 : decode cX1_written 36 = .ok (.iload_n 2, 1) := dk_28 (dk_at dksX1_written_1 12 rfl rfl)
theorem dX1_written_37 : decode cX1_written 37 = .ok (.bipush 8, 2) := dk_16 8 (dk_at dksX1_written_1 13 rfl rfl)
theorem dX1_written_39 : decode cX1_written 39 = .ok (.ishl, 1) := dk_120 (dk_at dksX1_written_1 15 rfl rfl)
theorem dX1_written_40 : decode cX1_written 40 = .ok (.iload_n 3, 1) := dk_29 (dk_at dksX1_written_1 16 rfl rfl)
theorem dX1_written_41 : decode cX1_written 41 = .ok (.aload_n 0, 1) := dk_42 (dk_at dksX1_written_1 17 rfl rfl)
theorem dX1_written_42 : decode cX1_written 42 = .ok (.getfield 35, 3) := dk_180 0 35 (dk_at dksX1_written_1 18 rfl rfl)
theorem dX1_written_45 : decode cX1_written 45 = .ok (.invokevirtual 347, 3) := dk_182 1 91 (dk_at dksX1_written_1 21 rfl rfl)
theorem dX1_written_48 : decode cX1_written 48 = .ok (.if_icmp .ge 14, 3) := dk_162 0 14 (dk_at dksX1_written_2 0 rfl rfl)
theorem dX1_written_51 : decode cX1_written 51 = .ok (.aload_n 0, 1) := dk_42 (dk_at dksX1_written_2 3 rfl rfl)
theorem dX1_written_52 : decode cX1_written 52 = .ok (.getfield 35, 3) := dk_180 0 35 (dk_at dksX1_written_2 4 rfl rfl)
theorem dX1_written_55 : decode cX1_written 55 = .ok (.iload_n 3, 1) := dk_29 (dk_at dksX1_written_2 7 rfl rfl)
theorem dX1_written_56 : decode cX1_written 56 = .ok (.invokevirtual 351, 3) := dk_182 1 95 (dk_at dksX1_written_2 8 rfl rfl)
theorem dX1_written_59 : decode cX1_written 59 = .ok (.goto 4, 3) := dk_167 0 4 (dk_at dksX1_written_2 11 rfl rfl)
theorem dX1_written_62 : decode cX1_written 62 = .ok (.iconst 0, 1) := dk_3 (dk_at dksX1_written_2 14 rfl rfl)
theorem dX1_written_63 : decode cX1_written 63 = .ok (.ior, 1) := dk_128 (dk_at dksX1_written_2 15 rfl rfl)
theorem dX1_written_64 : decode cX1_written 64 = .ok (.istore_n 2, 1) := dk_61 (dk_at dksX1_written_2 16 rfl rfl)
theorem dX1_written_65 : decode cX1_written 65 = .ok (.iinc 3 1, 3) := dk_132 3 1 (dk_at dksX1_written_2 17 rfl rfl)
theorem dX1_written_68 : decode cX1_written 68 = .ok (.goto (-41), 3) := dk_167 255 215 (dk_at dksX1_written_2 20 rfl rfl)
theorem dX1_written_71 : decode cX1_written 71 = .ok (.iload_n 2, 1) := dk_28 (dk_at dksX1_written_2 23 rfl rfl)
theorem dX1_written_72 : decode cX1_written 72 = .ok (.ireturn, 1) := dk_172 (dk_at dksX1_written_3 0 rfl rfl)
theorem q70 : (Jvm.Cond.initialized "InnRoad") ∈ lw_all := lw_g (lw_at lw_m1 1 rfl) rfl
theorem q116 : (Jvm.Cond.instantiable "InnRoad" (6 : Nat)) ∈ lw_all := lw_g (lw_at lw_m1 47 rfl) rfl
theorem q118 : (Jvm.Cond.instanceMethod ({ cls := "InnRoad", name := "<init>", desc := "()V" } : Jvm.MethodName)) ∈ lw_all := lw_g (lw_at lw_m1 49 rfl) rfl
theorem q119 : (Jvm.Cond.code ({ cls := "InnRoad", name := "<init>", desc := "()V" } : Jvm.MethodName) prog_1_method_3_code (3 : Nat) (Option.none : Option Jvm.ClassFile.FieldType)) ∈ lw_all := lw_g (lw_at lw_m1 50 rfl) rfl
theorem q120 : (Jvm.Cond.methodLink "InnRoad" (7 : Nat) ({ cls := "java/lang/Object", name := "<init>", desc := "()V" } : Jvm.MethodName)) ∈ lw_all := lw_g (lw_at lw_m1 51 rfl) rfl
theorem q123 : (Jvm.Cond.classLink "InnRoad" (17 : Nat) "InnRoad$Road") ∈ lw_all := lw_g (lw_at lw_m1 54 rfl) rfl
theorem q125 : (Jvm.Cond.methodLinkNest "InnRoad" (19 : Nat) ({ cls := "InnRoad$Road", name := "<init>", desc := "()V" } : Jvm.MethodName) "InnRoad") ∈ lw_tbl := lw_at lw_m1 56 rfl
theorem q141 : (Jvm.Cond.fieldLinkNest "InnRoad" (159 : Nat) "InnRoad$Links" "next" "[I" "InnRoad") ∈ lw_tbl := lw_at lw_m1 72 rfl
theorem q145 : (Jvm.Cond.fieldLinkNest "InnRoad" (165 : Nat) "InnRoad$Links" "skip" "[I" "InnRoad") ∈ lw_tbl := lw_at lw_m1 76 rfl
theorem q149 : (Jvm.Cond.fieldLinkNest "InnRoad" (168 : Nat) "InnRoad$Links" "first" "I" "InnRoad") ∈ lw_tbl := lw_at lw_m1 80 rfl
theorem q153 : (Jvm.Cond.fieldLinkNest "InnRoad" (171 : Nat) "InnRoad$Links" "second" "I" "InnRoad") ∈ lw_tbl := lw_at lw_m1 84 rfl
theorem q157 : (Jvm.Cond.fieldLinkNest "InnRoad" (174 : Nat) "InnRoad$Links" "count" "I" "InnRoad") ∈ lw_tbl := lw_at lw_m1 88 rfl
theorem q172 : (Jvm.Cond.fieldLinkNest "InnRoad" (43 : Nat) "InnRoad$Road" "inns" "[LInnRoad$Inn;" "InnRoad") ∈ lw_tbl := lw_at lw_m1 103 rfl
theorem q177 : (Jvm.Cond.fieldLinkNest "InnRoad" (155 : Nat) "InnRoad$Road" "links" "LInnRoad$Links;" "InnRoad") ∈ lw_tbl := lw_at lw_m1 108 rfl
theorem q179 : (Jvm.Cond.fieldLinkNest "InnRoad" (39 : Nat) "InnRoad$Road" "range" "I" "InnRoad") ∈ lw_tbl := lw_at lw_m1 110 rfl
theorem q182 : (Jvm.Cond.fieldLinkNest "InnRoad" (195 : Nat) "InnRoad$Road" "stagesRidden" "I" "InnRoad") ∈ lw_tbl := lw_at lw_m1 113 rfl
theorem q184 : (Jvm.Cond.fieldLinkNest "InnRoad" (201 : Nat) "InnRoad$Road" "lettersDelivered" "I" "InnRoad") ∈ lw_tbl := lw_at lw_m1 115 rfl
theorem q196 : (Jvm.Cond.classLink "InnRoad" (24 : Nat) "InnRoad$History") ∈ lw_all := lw_g (lw_at lw_m1 127 rfl) rfl
theorem q198 : (Jvm.Cond.methodLink "InnRoad" (26 : Nat) ({ cls := "InnRoad$History", name := "<init>", desc := "(I)V" } : Jvm.MethodName)) ∈ lw_all := lw_g (lw_at lw_m1 129 rfl) rfl
theorem q230 : (Jvm.Cond.stringRef "InnRoad" (33 : Nat) "") ∈ lw_tbl := lw_at lw_m1 161 rfl
theorem q231 : (Jvm.Cond.classLink "InnRoad" (47 : Nat) "InnRoad$Inn") ∈ lw_all := lw_g (lw_at lw_m1 162 rfl) rfl
theorem q233 : (Jvm.Cond.methodLink "InnRoad" (49 : Nat) ({ cls := "InnRoad$Inn", name := "<init>", desc := "(IZI)V" } : Jvm.MethodName)) ∈ lw_all := lw_g (lw_at lw_m1 164 rfl) rfl
theorem q239 : (Jvm.Cond.fieldLinkNest "InnRoad" (149 : Nat) "InnRoad$Inn" "mile" "I" "InnRoad") ∈ lw_tbl := lw_at lw_m1 170 rfl
theorem q242 : (Jvm.Cond.fieldLinkNest "InnRoad" (138 : Nat) "InnRoad$Inn" "isOpen" "Z" "InnRoad") ∈ lw_tbl := lw_at lw_m1 173 rfl
theorem q244 : (Jvm.Cond.fieldLinkNest "InnRoad" (131 : Nat) "InnRoad$Inn" "letters" "I" "InnRoad") ∈ lw_tbl := lw_at lw_m1 175 rfl
theorem q252 : (Jvm.Cond.methodLink "InnRoad" (52 : Nat) ({ cls := "InnRoad$Road", name := "rebuild", desc := "()I" } : Jvm.MethodName)) ∈ lw_all := lw_g (lw_at lw_m1 183 rfl) rfl
theorem q709 : (Jvm.Cond.selects "InnRoad" ({ cls := "java/lang/Object", name := "getClass", desc := "()Ljava/lang/Class;" } : Jvm.MethodName) ({ cls := "java/lang/Object", name := "getClass", desc := "()Ljava/lang/Class;" } : Jvm.MethodName)) ∈ lw_all := lw_g (lw_at lw_m3 160 rfl) rfl
theorem q762 : (Jvm.Cond.fieldLink "InnRoad" (13 : Nat) "InnRoad" "buffer" "[B") ∈ lw_all := lw_g (lw_at lw_m3 213 rfl) rfl
theorem q763 : (Jvm.Cond.fieldLink "InnRoad" (93 : Nat) "InnRoad" "bufferLength" "I") ∈ lw_all := lw_g (lw_at lw_m3 214 rfl) rfl
theorem q764 : (Jvm.Cond.fieldLink "InnRoad" (20 : Nat) "InnRoad" "road" "LInnRoad$Road;") ∈ lw_all := lw_g (lw_at lw_m3 215 rfl) rfl
theorem q765 : (Jvm.Cond.fieldLink "InnRoad" (204 : Nat) "InnRoad" "saved" "LInnRoad$Road;") ∈ lw_all := lw_g (lw_at lw_m3 216 rfl) rfl
theorem q766 : (Jvm.Cond.fieldLink "InnRoad" (29 : Nat) "InnRoad" "history" "LInnRoad$History;") ∈ lw_all := lw_g (lw_at lw_m3 217 rfl) rfl
theorem q767 : (Jvm.Cond.fieldLink "InnRoad" (35 : Nat) "InnRoad" "text" "Ljava/lang/String;") ∈ lw_all := lw_g (lw_at lw_m3 218 rfl) rfl
theorem q768 : (Jvm.Cond.laysFinal "InnRoad" "InnRoad" "buffer" "[B") ∈ lw_all := lw_g (lw_at lw_m3 219 rfl) rfl
theorem q769 : (Jvm.Cond.soleField "InnRoad" "buffer") ∈ lw_all := lw_g (lw_at lw_m3 220 rfl) rfl
theorem q770 : (Jvm.Cond.lays "InnRoad" "InnRoad" "bufferLength" "I") ∈ lw_all := lw_g (lw_at lw_m3 221 rfl) rfl
theorem q771 : (Jvm.Cond.soleField "InnRoad" "bufferLength") ∈ lw_all := lw_g (lw_at lw_m3 222 rfl) rfl
theorem q772 : (Jvm.Cond.lays "InnRoad" "InnRoad" "road" "LInnRoad$Road;") ∈ lw_all := lw_g (lw_at lw_m3 223 rfl) rfl
theorem q773 : (Jvm.Cond.soleField "InnRoad" "road") ∈ lw_all := lw_g (lw_at lw_m3 224 rfl) rfl
theorem q774 : (Jvm.Cond.lays "InnRoad" "InnRoad" "saved" "LInnRoad$Road;") ∈ lw_all := lw_g (lw_at lw_m3 225 rfl) rfl
theorem q775 : (Jvm.Cond.soleField "InnRoad" "saved") ∈ lw_all := lw_g (lw_at lw_m3 226 rfl) rfl
theorem q776 : (Jvm.Cond.laysFinal "InnRoad" "InnRoad" "history" "LInnRoad$History;") ∈ lw_all := lw_g (lw_at lw_m3 227 rfl) rfl
theorem q777 : (Jvm.Cond.soleField "InnRoad" "history") ∈ lw_all := lw_g (lw_at lw_m3 228 rfl) rfl
theorem q778 : (Jvm.Cond.lays "InnRoad" "InnRoad" "text" "Ljava/lang/String;") ∈ lw_all := lw_g (lw_at lw_m3 229 rfl) rfl
theorem q779 : (Jvm.Cond.soleField "InnRoad" "text") ∈ lw_all := lw_g (lw_at lw_m3 230 rfl) rfl
theorem q780 : (Jvm.Cond.superclass "InnRoad" "java/lang/Object") ∈ lw_all := lw_g (lw_at lw_m3 231 rfl) rfl
theorem q782 : (Jvm.Cond.instanceMethod ({ cls := "InnRoad", name := "errorPosition", desc := "()I" } : Jvm.MethodName)) ∈ lw_all := lw_g (lw_at lw_m3 233 rfl) rfl
theorem q783 : (Jvm.Cond.selects "InnRoad" ({ cls := "InnRoad", name := "errorPosition", desc := "()I" } : Jvm.MethodName) ({ cls := "InnRoad", name := "errorPosition", desc := "()I" } : Jvm.MethodName)) ∈ lw_all := lw_g (lw_at lw_m3 234 rfl) rfl
theorem q784 : (Jvm.Cond.codeWith ({ cls := "InnRoad", name := "errorPosition", desc := "()I" } : Jvm.MethodName) prog_1_method_14_code (2 : Nat) (Option.some Jvm.ClassFile.FieldType.int) [((0 : Nat), (20 : Nat), (21 : Nat), (110 : Nat))]) ∈ lw_all := lw_g (lw_at lw_m3 235 rfl) rfl
theorem q785 : (Jvm.Cond.classLink "InnRoad" (110 : Nat) "InnRoad$TokenException") ∈ lw_all := lw_g (lw_at lw_m3 236 rfl) rfl
theorem q786 : (Jvm.Cond.classLink "InnRoad" (102 : Nat) "InnRoad$Parser") ∈ lw_all := lw_g (lw_at lw_m3 237 rfl) rfl
theorem q788 : (Jvm.Cond.methodLink "InnRoad" (104 : Nat) ({ cls := "InnRoad$Parser", name := "<init>", desc := "([BI)V" } : Jvm.MethodName)) ∈ lw_all := lw_g (lw_at lw_m3 239 rfl) rfl
theorem q849 : (Jvm.Cond.methodLink "InnRoad" (107 : Nat) ({ cls := "InnRoad$Parser", name := "parse", desc := "()LInnRoad$Road;" } : Jvm.MethodName)) ∈ lw_all := lw_g (lw_at lw_m4 60 rfl) rfl
theorem q935 : (Jvm.Cond.fieldLinkNest "InnRoad" (112 : Nat) "InnRoad$TokenException" "position" "I" "InnRoad") ∈ lw_tbl := lw_at lw_m4 146 rfl
theorem q945 : (Jvm.Cond.static ({ cls := "InnRoad", name := "isBetween", desc := "(III)Z" } : Jvm.MethodName)) ∈ lw_all := lw_g (lw_at lw_m4 156 rfl) rfl
theorem q946 : (Jvm.Cond.code ({ cls := "InnRoad", name := "isBetween", desc := "(III)Z" } : Jvm.MethodName) prog_1_method_1_code (3 : Nat) (Option.some Jvm.ClassFile.FieldType.boolean)) ∈ lw_all := lw_g (lw_at lw_m4 157 rfl) rfl
theorem q981 : (Jvm.Cond.selects "InnRoad" ({ cls := "java/lang/Object", name := "hashCode", desc := "()I" } : Jvm.MethodName) ({ cls := "java/lang/Object", name := "hashCode", desc := "()I" } : Jvm.MethodName)) ∈ lw_all := lw_g (lw_at lw_m4 192 rfl) rfl
theorem q1074 : (Jvm.Cond.selects "InnRoad" ({ cls := "java/lang/Object", name := "equals", desc := "(Ljava/lang/Object;)Z" } : Jvm.MethodName) ({ cls := "java/lang/Object", name := "equals", desc := "(Ljava/lang/Object;)Z" } : Jvm.MethodName)) ∈ lw_all := lw_g (lw_at lw_m5 45 rfl) rfl
theorem q1520 : (Jvm.Cond.instanceMethod ({ cls := "InnRoad", name := "thaw", desc := "()I" } : Jvm.MethodName)) ∈ lw_all := lw_g (lw_at lw_m7 11 rfl) rfl
theorem q1521 : (Jvm.Cond.selects "InnRoad" ({ cls := "InnRoad", name := "thaw", desc := "()I" } : Jvm.MethodName) ({ cls := "InnRoad", name := "thaw", desc := "()I" } : Jvm.MethodName)) ∈ lw_all := lw_g (lw_at lw_m7 12 rfl) rfl
theorem q1522 : (Jvm.Cond.code ({ cls := "InnRoad", name := "thaw", desc := "()I" } : Jvm.MethodName) prog_1_method_22_code (4 : Nat) (Option.some Jvm.ClassFile.FieldType.int)) ∈ lw_all := lw_g (lw_at lw_m7 13 rfl) rfl
theorem q1523 : (Jvm.Cond.methodLink "InnRoad" (146 : Nat) ({ cls := "InnRoad$Road", name := "openInns", desc := "()I" } : Jvm.MethodName)) ∈ lw_all := lw_g (lw_at lw_m7 14 rfl) rfl
theorem q1527 : (Jvm.Cond.methodLink "InnRoad" (128 : Nat) ({ cls := "InnRoad", name := "change", desc := "()LInnRoad$Road;" } : Jvm.MethodName)) ∈ lw_all := lw_g (lw_at lw_m7 18 rfl) rfl
theorem q1528 : (Jvm.Cond.privateMethod ({ cls := "InnRoad", name := "change", desc := "()LInnRoad$Road;" } : Jvm.MethodName)) ∈ lw_tbl := lw_at lw_m7 19 rfl
theorem q1529 : (Jvm.Cond.instanceMethod ({ cls := "InnRoad", name := "change", desc := "()LInnRoad$Road;" } : Jvm.MethodName)) ∈ lw_all := lw_g (lw_at lw_m7 20 rfl) rfl
theorem q1530 : (Jvm.Cond.code ({ cls := "InnRoad", name := "change", desc := "()LInnRoad$Road;" } : Jvm.MethodName) prog_1_method_10_code (1 : Nat) (Option.some (Jvm.ClassFile.FieldType.object "InnRoad$Road"))) ∈ lw_all := lw_g (lw_at lw_m7 21 rfl) rfl
theorem q1531 : (Jvm.Cond.methodLink "InnRoad" (81 : Nat) ({ cls := "InnRoad$Road", name := "copy", desc := "()LInnRoad$Road;" } : Jvm.MethodName)) ∈ lw_all := lw_g (lw_at lw_m7 22 rfl) rfl
theorem q1538 : (Jvm.Cond.methodLink "InnRoad" (85 : Nat) ({ cls := "InnRoad", name := "replaceBy", desc := "(LInnRoad$Road;)V" } : Jvm.MethodName)) ∈ lw_all := lw_g (lw_at lw_m7 29 rfl) rfl
theorem q1539 : (Jvm.Cond.privateMethod ({ cls := "InnRoad", name := "replaceBy", desc := "(LInnRoad$Road;)V" } : Jvm.MethodName)) ∈ lw_tbl := lw_at lw_m7 30 rfl
theorem q1540 : (Jvm.Cond.instanceMethod ({ cls := "InnRoad", name := "replaceBy", desc := "(LInnRoad$Road;)V" } : Jvm.MethodName)) ∈ lw_all := lw_g (lw_at lw_m7 31 rfl) rfl
theorem q1541 : (Jvm.Cond.code ({ cls := "InnRoad", name := "replaceBy", desc := "(LInnRoad$Road;)V" } : Jvm.MethodName) prog_1_method_9_code (2 : Nat) (Option.none : Option Jvm.ClassFile.FieldType)) ∈ lw_all := lw_g (lw_at lw_m7 32 rfl) rfl
theorem q1542 : (Jvm.Cond.methodLink "InnRoad" (77 : Nat) ({ cls := "InnRoad$History", name := "add", desc := "(LInnRoad$Copyable;)V" } : Jvm.MethodName)) ∈ lw_all := lw_g (lw_at lw_m7 33 rfl) rfl
theorem q1600 : (Jvm.Cond.methodLink "InnRoad" (65 : Nat) ({ cls := "InnRoad$Road", name := "hasInn", desc := "(I)Z" } : Jvm.MethodName)) ∈ lw_all := lw_g (lw_at lw_m7 91 rfl) rfl
theorem q1601 : (Jvm.Cond.methodLink "InnRoad" (134 : Nat) ({ cls := "InnRoad$Inn", name := "opened", desc := "(Z)LInnRoad$Inn;" } : Jvm.MethodName)) ∈ lw_all := lw_g (lw_at lw_m7 92 rfl) rfl
theorem q1608 : (Jvm.Cond.instanceMethod ({ cls := "InnRoad", name := "rebuild", desc := "()I" } : Jvm.MethodName)) ∈ lw_all := lw_g (lw_at lw_m7 99 rfl) rfl
theorem q1609 : (Jvm.Cond.selects "InnRoad" ({ cls := "InnRoad", name := "rebuild", desc := "()I" } : Jvm.MethodName) ({ cls := "InnRoad", name := "rebuild", desc := "()I" } : Jvm.MethodName)) ∈ lw_all := lw_g (lw_at lw_m7 100 rfl) rfl
theorem q1610 : (Jvm.Cond.code ({ cls := "InnRoad", name := "rebuild", desc := "()I" } : Jvm.MethodName) prog_1_method_30_code (1 : Nat) (Option.some Jvm.ClassFile.FieldType.int)) ∈ lw_all := lw_g (lw_at lw_m7 101 rfl) rfl
theorem q1612 : (Jvm.Cond.instanceMethod ({ cls := "InnRoad", name := "undoCount", desc := "()I" } : Jvm.MethodName)) ∈ lw_all := lw_g (lw_at lw_m7 103 rfl) rfl
theorem q1613 : (Jvm.Cond.selects "InnRoad" ({ cls := "InnRoad", name := "undoCount", desc := "()I" } : Jvm.MethodName) ({ cls := "InnRoad", name := "undoCount", desc := "()I" } : Jvm.MethodName)) ∈ lw_all := lw_g (lw_at lw_m7 104 rfl) rfl
theorem q1614 : (Jvm.Cond.code ({ cls := "InnRoad", name := "undoCount", desc := "()I" } : Jvm.MethodName) prog_1_method_35_code (1 : Nat) (Option.some Jvm.ClassFile.FieldType.int)) ∈ lw_all := lw_g (lw_at lw_m7 105 rfl) rfl
theorem q1615 : (Jvm.Cond.methodLink "InnRoad" (207 : Nat) ({ cls := "InnRoad$History", name := "size", desc := "()I" } : Jvm.MethodName)) ∈ lw_all := lw_g (lw_at lw_m7 106 rfl) rfl
theorem q1620 : (Jvm.Cond.instanceMethod ({ cls := "InnRoad", name := "save", desc := "()I" } : Jvm.MethodName)) ∈ lw_all := lw_g (lw_at lw_m7 111 rfl) rfl
theorem q1621 : (Jvm.Cond.selects "InnRoad" ({ cls := "InnRoad", name := "save", desc := "()I" } : Jvm.MethodName) ({ cls := "InnRoad", name := "save", desc := "()I" } : Jvm.MethodName)) ∈ lw_all := lw_g (lw_at lw_m7 112 rfl) rfl
theorem q1622 : (Jvm.Cond.code ({ cls := "InnRoad", name := "save", desc := "()I" } : Jvm.MethodName) prog_1_method_36_code (1 : Nat) (Option.some Jvm.ClassFile.FieldType.int)) ∈ lw_all := lw_g (lw_at lw_m7 113 rfl) rfl
theorem q1623 : (Jvm.Cond.methodLink "InnRoad" (115 : Nat) ({ cls := "InnRoad$Road", name := "size", desc := "()I" } : Jvm.MethodName)) ∈ lw_all := lw_g (lw_at lw_m7 114 rfl) rfl
theorem q1628 : (Jvm.Cond.instanceMethod ({ cls := "InnRoad", name := "inns", desc := "()I" } : Jvm.MethodName)) ∈ lw_all := lw_g (lw_at lw_m7 119 rfl) rfl
theorem q1629 : (Jvm.Cond.selects "InnRoad" ({ cls := "InnRoad", name := "inns", desc := "()I" } : Jvm.MethodName) ({ cls := "InnRoad", name := "inns", desc := "()I" } : Jvm.MethodName)) ∈ lw_all := lw_g (lw_at lw_m7 120 rfl) rfl
theorem q1630 : (Jvm.Cond.code ({ cls := "InnRoad", name := "inns", desc := "()I" } : Jvm.MethodName) prog_1_method_37_code (1 : Nat) (Option.some Jvm.ClassFile.FieldType.int)) ∈ lw_all := lw_g (lw_at lw_m7 121 rfl) rfl
theorem q1632 : (Jvm.Cond.instanceMethod ({ cls := "InnRoad", name := "first", desc := "()I" } : Jvm.MethodName)) ∈ lw_all := lw_g (lw_at lw_m7 123 rfl) rfl
theorem q1633 : (Jvm.Cond.selects "InnRoad" ({ cls := "InnRoad", name := "first", desc := "()I" } : Jvm.MethodName) ({ cls := "InnRoad", name := "first", desc := "()I" } : Jvm.MethodName)) ∈ lw_all := lw_g (lw_at lw_m7 124 rfl) rfl
theorem q1634 : (Jvm.Cond.code ({ cls := "InnRoad", name := "first", desc := "()I" } : Jvm.MethodName) prog_1_method_44_code (1 : Nat) (Option.some Jvm.ClassFile.FieldType.int)) ∈ lw_all := lw_g (lw_at lw_m7 125 rfl) rfl
theorem q1636 : (Jvm.Cond.instanceMethod ({ cls := "InnRoad", name := "second", desc := "()I" } : Jvm.MethodName)) ∈ lw_all := lw_g (lw_at lw_m7 127 rfl) rfl
theorem q1637 : (Jvm.Cond.selects "InnRoad" ({ cls := "InnRoad", name := "second", desc := "()I" } : Jvm.MethodName) ({ cls := "InnRoad", name := "second", desc := "()I" } : Jvm.MethodName)) ∈ lw_all := lw_g (lw_at lw_m7 128 rfl) rfl
theorem q1638 : (Jvm.Cond.code ({ cls := "InnRoad", name := "second", desc := "()I" } : Jvm.MethodName) prog_1_method_45_code (1 : Nat) (Option.some Jvm.ClassFile.FieldType.int)) ∈ lw_all := lw_g (lw_at lw_m7 129 rfl) rfl
theorem q1640 : (Jvm.Cond.instanceMethod ({ cls := "InnRoad", name := "storedCount", desc := "()I" } : Jvm.MethodName)) ∈ lw_all := lw_g (lw_at lw_m7 131 rfl) rfl
theorem q1641 : (Jvm.Cond.selects "InnRoad" ({ cls := "InnRoad", name := "storedCount", desc := "()I" } : Jvm.MethodName) ({ cls := "InnRoad", name := "storedCount", desc := "()I" } : Jvm.MethodName)) ∈ lw_all := lw_g (lw_at lw_m7 132 rfl) rfl
theorem q1642 : (Jvm.Cond.code ({ cls := "InnRoad", name := "storedCount", desc := "()I" } : Jvm.MethodName) prog_1_method_46_code (1 : Nat) (Option.some Jvm.ClassFile.FieldType.int)) ∈ lw_all := lw_g (lw_at lw_m7 133 rfl) rfl
theorem q1644 : (Jvm.Cond.instanceMethod ({ cls := "InnRoad", name := "range", desc := "()I" } : Jvm.MethodName)) ∈ lw_all := lw_g (lw_at lw_m7 135 rfl) rfl
theorem q1645 : (Jvm.Cond.selects "InnRoad" ({ cls := "InnRoad", name := "range", desc := "()I" } : Jvm.MethodName) ({ cls := "InnRoad", name := "range", desc := "()I" } : Jvm.MethodName)) ∈ lw_all := lw_g (lw_at lw_m7 136 rfl) rfl
theorem q1646 : (Jvm.Cond.code ({ cls := "InnRoad", name := "range", desc := "()I" } : Jvm.MethodName) prog_1_method_47_code (1 : Nat) (Option.some Jvm.ClassFile.FieldType.int)) ∈ lw_all := lw_g (lw_at lw_m7 137 rfl) rfl
theorem q1648 : (Jvm.Cond.instanceMethod ({ cls := "InnRoad", name := "openInns", desc := "()I" } : Jvm.MethodName)) ∈ lw_all := lw_g (lw_at lw_m7 139 rfl) rfl
theorem q1649 : (Jvm.Cond.selects "InnRoad" ({ cls := "InnRoad", name := "openInns", desc := "()I" } : Jvm.MethodName) ({ cls := "InnRoad", name := "openInns", desc := "()I" } : Jvm.MethodName)) ∈ lw_all := lw_g (lw_at lw_m7 140 rfl) rfl
theorem q1650 : (Jvm.Cond.code ({ cls := "InnRoad", name := "openInns", desc := "()I" } : Jvm.MethodName) prog_1_method_48_code (1 : Nat) (Option.some Jvm.ClassFile.FieldType.int)) ∈ lw_all := lw_g (lw_at lw_m7 141 rfl) rfl
theorem q1652 : (Jvm.Cond.instanceMethod ({ cls := "InnRoad", name := "innAtMile", desc := "(I)I" } : Jvm.MethodName)) ∈ lw_all := lw_g (lw_at lw_m7 143 rfl) rfl
theorem q1653 : (Jvm.Cond.selects "InnRoad" ({ cls := "InnRoad", name := "innAtMile", desc := "(I)I" } : Jvm.MethodName) ({ cls := "InnRoad", name := "innAtMile", desc := "(I)I" } : Jvm.MethodName)) ∈ lw_all := lw_g (lw_at lw_m7 144 rfl) rfl
theorem q1654 : (Jvm.Cond.code ({ cls := "InnRoad", name := "innAtMile", desc := "(I)I" } : Jvm.MethodName) prog_1_method_49_code (2 : Nat) (Option.some Jvm.ClassFile.FieldType.int)) ∈ lw_all := lw_g (lw_at lw_m7 145 rfl) rfl
theorem q1655 : (Jvm.Cond.methodLink "InnRoad" (118 : Nat) ({ cls := "InnRoad$Road", name := "innAtMile", desc := "(I)I" } : Jvm.MethodName)) ∈ lw_all := lw_g (lw_at lw_m7 146 rfl) rfl
theorem q1657 : (Jvm.Cond.instanceMethod ({ cls := "InnRoad", name := "totalLetters", desc := "()I" } : Jvm.MethodName)) ∈ lw_all := lw_g (lw_at lw_m7 148 rfl) rfl
theorem q1658 : (Jvm.Cond.selects "InnRoad" ({ cls := "InnRoad", name := "totalLetters", desc := "()I" } : Jvm.MethodName) ({ cls := "InnRoad", name := "totalLetters", desc := "()I" } : Jvm.MethodName)) ∈ lw_all := lw_g (lw_at lw_m7 149 rfl) rfl
theorem q1659 : (Jvm.Cond.code ({ cls := "InnRoad", name := "totalLetters", desc := "()I" } : Jvm.MethodName) prog_1_method_50_code (3 : Nat) (Option.some Jvm.ClassFile.FieldType.int)) ∈ lw_all := lw_g (lw_at lw_m7 150 rfl) rfl
theorem q1661 : (Jvm.Cond.instanceMethod ({ cls := "InnRoad", name := "stagesRidden", desc := "()I" } : Jvm.MethodName)) ∈ lw_all := lw_g (lw_at lw_m7 152 rfl) rfl
theorem q1662 : (Jvm.Cond.selects "InnRoad" ({ cls := "InnRoad", name := "stagesRidden", desc := "()I" } : Jvm.MethodName) ({ cls := "InnRoad", name := "stagesRidden", desc := "()I" } : Jvm.MethodName)) ∈ lw_all := lw_g (lw_at lw_m7 153 rfl) rfl
theorem q1663 : (Jvm.Cond.code ({ cls := "InnRoad", name := "stagesRidden", desc := "()I" } : Jvm.MethodName) prog_1_method_51_code (1 : Nat) (Option.some Jvm.ClassFile.FieldType.int)) ∈ lw_all := lw_g (lw_at lw_m7 154 rfl) rfl
theorem q1665 : (Jvm.Cond.instanceMethod ({ cls := "InnRoad", name := "lettersDelivered", desc := "()I" } : Jvm.MethodName)) ∈ lw_all := lw_g (lw_at lw_m7 156 rfl) rfl
theorem q1666 : (Jvm.Cond.selects "InnRoad" ({ cls := "InnRoad", name := "lettersDelivered", desc := "()I" } : Jvm.MethodName) ({ cls := "InnRoad", name := "lettersDelivered", desc := "()I" } : Jvm.MethodName)) ∈ lw_all := lw_g (lw_at lw_m7 157 rfl) rfl
theorem q1667 : (Jvm.Cond.code ({ cls := "InnRoad", name := "lettersDelivered", desc := "()I" } : Jvm.MethodName) prog_1_method_52_code (1 : Nat) (Option.some Jvm.ClassFile.FieldType.int)) ∈ lw_all := lw_g (lw_at lw_m7 158 rfl) rfl
theorem q1669 : (Jvm.Cond.instanceMethod ({ cls := "InnRoad", name := "meanGap", desc := "()D" } : Jvm.MethodName)) ∈ lw_all := lw_g (lw_at lw_m7 160 rfl) rfl
theorem q1670 : (Jvm.Cond.selects "InnRoad" ({ cls := "InnRoad", name := "meanGap", desc := "()D" } : Jvm.MethodName) ({ cls := "InnRoad", name := "meanGap", desc := "()D" } : Jvm.MethodName)) ∈ lw_all := lw_g (lw_at lw_m7 161 rfl) rfl
theorem q1671 : (Jvm.Cond.code ({ cls := "InnRoad", name := "meanGap", desc := "()D" } : Jvm.MethodName) prog_1_method_53_code (3 : Nat) (Option.some Jvm.ClassFile.FieldType.double)) ∈ lw_all := lw_g (lw_at lw_m7 162 rfl) rfl
theorem q1672 : (Jvm.Cond.methodLinkNest "InnRoad" (212 : Nat) ({ cls := "InnRoad$Road", name := "byMiles", desc := "()Ljava/util/List;" } : Jvm.MethodName) "InnRoad") ∈ lw_tbl := lw_at lw_m7 163 rfl
theorem q1673 : (Jvm.Cond.interfaceEntry "InnRoad" (216 : Nat)) ∈ lw_tbl := lw_at lw_m7 164 rfl
theorem q1674 : (Jvm.Cond.methodLink "InnRoad" (216 : Nat) ({ cls := "java/util/List", name := "size", desc := "()I" } : Jvm.MethodName)) ∈ lw_all := lw_g (lw_at lw_m7 165 rfl) rfl
theorem q1675 : (Jvm.Cond.interfaceEntry "InnRoad" (219 : Nat)) ∈ lw_tbl := lw_at lw_m7 166 rfl
theorem q1676 : (Jvm.Cond.methodLink "InnRoad" (219 : Nat) ({ cls := "java/util/List", name := "get", desc := "(I)Ljava/lang/Object;" } : Jvm.MethodName)) ∈ lw_all := lw_g (lw_at lw_m7 167 rfl) rfl
theorem q1677 : (Jvm.Cond.classLink "InnRoad" (223 : Nat) "java/lang/Integer") ∈ lw_all := lw_g (lw_at lw_m7 168 rfl) rfl
theorem q1678 : (Jvm.Cond.methodLink "InnRoad" (225 : Nat) ({ cls := "java/lang/Integer", name := "intValue", desc := "()I" } : Jvm.MethodName)) ∈ lw_all := lw_g (lw_at lw_m7 169 rfl) rfl
theorem q1679 : (Jvm.Cond.methodLink "InnRoad" (228 : Nat) ({ cls := "InnRoad$Road", name := "distance", desc := "(II)I" } : Jvm.MethodName)) ∈ lw_all := lw_g (lw_at lw_m7 170 rfl) rfl
theorem q1687 : (Jvm.Cond.instanceMethod ({ cls := "InnRoad", name := "openShare", desc := "()F" } : Jvm.MethodName)) ∈ lw_all := lw_g (lw_at lw_m7 178 rfl) rfl
theorem q1688 : (Jvm.Cond.selects "InnRoad" ({ cls := "InnRoad", name := "openShare", desc := "()F" } : Jvm.MethodName) ({ cls := "InnRoad", name := "openShare", desc := "()F" } : Jvm.MethodName)) ∈ lw_all := lw_g (lw_at lw_m7 179 rfl) rfl
theorem q1689 : (Jvm.Cond.code ({ cls := "InnRoad", name := "openShare", desc := "()F" } : Jvm.MethodName) prog_1_method_54_code (2 : Nat) (Option.some Jvm.ClassFile.FieldType.float)) ∈ lw_all := lw_g (lw_at lw_m7 180 rfl) rfl
theorem q1691 : (Jvm.Cond.instanceMethod ({ cls := "InnRoad", name := "isConsistent", desc := "()Z" } : Jvm.MethodName)) ∈ lw_all := lw_g (lw_at lw_m7 182 rfl) rfl
theorem q1692 : (Jvm.Cond.selects "InnRoad" ({ cls := "InnRoad", name := "isConsistent", desc := "()Z" } : Jvm.MethodName) ({ cls := "InnRoad", name := "isConsistent", desc := "()Z" } : Jvm.MethodName)) ∈ lw_all := lw_g (lw_at lw_m7 183 rfl) rfl
theorem q1693 : (Jvm.Cond.code ({ cls := "InnRoad", name := "isConsistent", desc := "()Z" } : Jvm.MethodName) prog_1_method_55_code (1 : Nat) (Option.some Jvm.ClassFile.FieldType.boolean)) ∈ lw_all := lw_g (lw_at lw_m7 184 rfl) rfl
theorem q1694 : (Jvm.Cond.methodLink "InnRoad" (125 : Nat) ({ cls := "InnRoad$Road", name := "wrongValues", desc := "()I" } : Jvm.MethodName)) ∈ lw_all := lw_g (lw_at lw_m7 185 rfl) rfl
theorem q1699 : (Jvm.Cond.instanceMethod ({ cls := "InnRoad", name := "chainLength", desc := "()I" } : Jvm.MethodName)) ∈ lw_all := lw_g (lw_at lw_m7 190 rfl) rfl
theorem q1700 : (Jvm.Cond.selects "InnRoad" ({ cls := "InnRoad", name := "chainLength", desc := "()I" } : Jvm.MethodName) ({ cls := "InnRoad", name := "chainLength", desc := "()I" } : Jvm.MethodName)) ∈ lw_all := lw_g (lw_at lw_m7 191 rfl) rfl
theorem q1701 : (Jvm.Cond.code ({ cls := "InnRoad", name := "chainLength", desc := "()I" } : Jvm.MethodName) prog_1_method_56_code (1 : Nat) (Option.some Jvm.ClassFile.FieldType.int)) ∈ lw_all := lw_g (lw_at lw_m7 192 rfl) rfl
theorem q1702 : (Jvm.Cond.methodLink "InnRoad" (232 : Nat) ({ cls := "InnRoad$Road", name := "chain", desc := "()Ljava/util/List;" } : Jvm.MethodName)) ∈ lw_all := lw_g (lw_at lw_m7 193 rfl) rfl
theorem q1738 : (Jvm.Cond.instanceMethod ({ cls := "InnRoad", name := "hasCycle", desc := "()Z" } : Jvm.MethodName)) ∈ lw_all := lw_g (lw_at lw_m7 229 rfl) rfl
theorem q1739 : (Jvm.Cond.selects "InnRoad" ({ cls := "InnRoad", name := "hasCycle", desc := "()Z" } : Jvm.MethodName) ({ cls := "InnRoad", name := "hasCycle", desc := "()Z" } : Jvm.MethodName)) ∈ lw_all := lw_g (lw_at lw_m7 230 rfl) rfl
theorem q1740 : (Jvm.Cond.code ({ cls := "InnRoad", name := "hasCycle", desc := "()Z" } : Jvm.MethodName) prog_1_method_59_code (1 : Nat) (Option.some Jvm.ClassFile.FieldType.boolean)) ∈ lw_all := lw_g (lw_at lw_m7 231 rfl) rfl
theorem q1741 : (Jvm.Cond.methodLink "InnRoad" (243 : Nat) ({ cls := "InnRoad$Road", name := "hasCycle", desc := "()Z" } : Jvm.MethodName)) ∈ lw_all := lw_g (lw_at lw_m7 232 rfl) rfl
theorem q1756 : (Jvm.Cond.instanceMethod ({ cls := "InnRoad", name := "danglingPointers", desc := "()I" } : Jvm.MethodName)) ∈ lw_all := lw_g (lw_at lw_m8 7 rfl) rfl
theorem q1757 : (Jvm.Cond.selects "InnRoad" ({ cls := "InnRoad", name := "danglingPointers", desc := "()I" } : Jvm.MethodName) ({ cls := "InnRoad", name := "danglingPointers", desc := "()I" } : Jvm.MethodName)) ∈ lw_all := lw_g (lw_at lw_m8 8 rfl) rfl
theorem q1758 : (Jvm.Cond.code ({ cls := "InnRoad", name := "danglingPointers", desc := "()I" } : Jvm.MethodName) prog_1_method_60_code (1 : Nat) (Option.some Jvm.ClassFile.FieldType.int)) ∈ lw_all := lw_g (lw_at lw_m8 9 rfl) rfl
theorem q1759 : (Jvm.Cond.methodLink "InnRoad" (246 : Nat) ({ cls := "InnRoad$Road", name := "danglingPointers", desc := "()I" } : Jvm.MethodName)) ∈ lw_all := lw_g (lw_at lw_m8 10 rfl) rfl
theorem q1768 : (Jvm.Cond.instanceMethod ({ cls := "InnRoad", name := "wrongValues", desc := "()I" } : Jvm.MethodName)) ∈ lw_all := lw_g (lw_at lw_m8 19 rfl) rfl
theorem q1769 : (Jvm.Cond.selects "InnRoad" ({ cls := "InnRoad", name := "wrongValues", desc := "()I" } : Jvm.MethodName) ({ cls := "InnRoad", name := "wrongValues", desc := "()I" } : Jvm.MethodName)) ∈ lw_all := lw_g (lw_at lw_m8 20 rfl) rfl
theorem q1770 : (Jvm.Cond.code ({ cls := "InnRoad", name := "wrongValues", desc := "()I" } : Jvm.MethodName) prog_1_method_61_code (1 : Nat) (Option.some Jvm.ClassFile.FieldType.int)) ∈ lw_all := lw_g (lw_at lw_m8 21 rfl) rfl
theorem q1772 : (Jvm.Cond.instanceMethod ({ cls := "InnRoad", name := "descents", desc := "()I" } : Jvm.MethodName)) ∈ lw_all := lw_g (lw_at lw_m8 23 rfl) rfl
theorem q1773 : (Jvm.Cond.selects "InnRoad" ({ cls := "InnRoad", name := "descents", desc := "()I" } : Jvm.MethodName) ({ cls := "InnRoad", name := "descents", desc := "()I" } : Jvm.MethodName)) ∈ lw_all := lw_g (lw_at lw_m8 24 rfl) rfl
theorem q1774 : (Jvm.Cond.code ({ cls := "InnRoad", name := "descents", desc := "()I" } : Jvm.MethodName) prog_1_method_62_code (1 : Nat) (Option.some Jvm.ClassFile.FieldType.int)) ∈ lw_all := lw_g (lw_at lw_m8 25 rfl) rfl
theorem q1775 : (Jvm.Cond.methodLink "InnRoad" (249 : Nat) ({ cls := "InnRoad$Road", name := "descents", desc := "()I" } : Jvm.MethodName)) ∈ lw_all := lw_g (lw_at lw_m8 26 rfl) rfl
theorem q1780 : (Jvm.Cond.instanceMethod ({ cls := "InnRoad", name := "hasSingleFault", desc := "()Z" } : Jvm.MethodName)) ∈ lw_all := lw_g (lw_at lw_m8 31 rfl) rfl
theorem q1781 : (Jvm.Cond.selects "InnRoad" ({ cls := "InnRoad", name := "hasSingleFault", desc := "()Z" } : Jvm.MethodName) ({ cls := "InnRoad", name := "hasSingleFault", desc := "()Z" } : Jvm.MethodName)) ∈ lw_all := lw_g (lw_at lw_m8 32 rfl) rfl
theorem q1782 : (Jvm.Cond.code ({ cls := "InnRoad", name := "hasSingleFault", desc := "()Z" } : Jvm.MethodName) prog_1_method_63_code (1 : Nat) (Option.some Jvm.ClassFile.FieldType.boolean)) ∈ lw_all := lw_g (lw_at lw_m8 33 rfl) rfl
theorem q1784 : (Jvm.Cond.instanceMethod ({ cls := "InnRoad", name := "faultyInn", desc := "()I" } : Jvm.MethodName)) ∈ lw_all := lw_g (lw_at lw_m8 35 rfl) rfl
theorem q1785 : (Jvm.Cond.selects "InnRoad" ({ cls := "InnRoad", name := "faultyInn", desc := "()I" } : Jvm.MethodName) ({ cls := "InnRoad", name := "faultyInn", desc := "()I" } : Jvm.MethodName)) ∈ lw_all := lw_g (lw_at lw_m8 36 rfl) rfl
theorem q1786 : (Jvm.Cond.code ({ cls := "InnRoad", name := "faultyInn", desc := "()I" } : Jvm.MethodName) prog_1_method_64_code (1 : Nat) (Option.some Jvm.ClassFile.FieldType.int)) ∈ lw_all := lw_g (lw_at lw_m8 37 rfl) rfl
theorem q1787 : (Jvm.Cond.methodLink "InnRoad" (177 : Nat) ({ cls := "InnRoad", name := "hasSingleFault", desc := "()Z" } : Jvm.MethodName)) ∈ lw_all := lw_g (lw_at lw_m8 38 rfl) rfl
theorem q1788 : (Jvm.Cond.methodLink "InnRoad" (252 : Nat) ({ cls := "InnRoad$Road", name := "correctLinks", desc := "()LInnRoad$Links;" } : Jvm.MethodName)) ∈ lw_all := lw_g (lw_at lw_m8 39 rfl) rfl
theorem q1789 : (Jvm.Cond.methodLink "InnRoad" (256 : Nat) ({ cls := "InnRoad$Road", name := "faultyInn", desc := "(LInnRoad$Links;)I" } : Jvm.MethodName)) ∈ lw_all := lw_g (lw_at lw_m8 40 rfl) rfl
theorem q1794 : (Jvm.Cond.instanceMethod ({ cls := "InnRoad", name := "write", desc := "()I" } : Jvm.MethodName)) ∈ lw_all := lw_g (lw_at lw_m8 45 rfl) rfl
theorem q1795 : (Jvm.Cond.selects "InnRoad" ({ cls := "InnRoad", name := "write", desc := "()I" } : Jvm.MethodName) ({ cls := "InnRoad", name := "write", desc := "()I" } : Jvm.MethodName)) ∈ lw_all := lw_g (lw_at lw_m8 46 rfl) rfl
theorem q1796 : (Jvm.Cond.code ({ cls := "InnRoad", name := "write", desc := "()I" } : Jvm.MethodName) prog_1_method_80_code (4 : Nat) (Option.some Jvm.ClassFile.FieldType.int)) ∈ lw_all := lw_g (lw_at lw_m8 47 rfl) rfl
theorem q1797 : (Jvm.Cond.classLink "InnRoad" (297 : Nat) "java/lang/StringBuilder") ∈ lw_all := lw_g (lw_at lw_m8 48 rfl) rfl
theorem q1798 : (Jvm.Cond.stringRef "InnRoad" (328 : Nat) "road ") ∈ lw_tbl := lw_at lw_m8 49 rfl
theorem q1799 : (Jvm.Cond.methodLink "InnRoad" (330 : Nat) ({ cls := "java/lang/StringBuilder", name := "<init>", desc := "(Ljava/lang/String;)V" } : Jvm.MethodName)) ∈ lw_all := lw_g (lw_at lw_m8 50 rfl) rfl
theorem q1810 : (Jvm.Cond.methodLink "InnRoad" (305 : Nat) ({ cls := "java/lang/StringBuilder", name := "append", desc := "(I)Ljava/lang/StringBuilder;" } : Jvm.MethodName)) ∈ lw_all := lw_g (lw_at lw_m8 61 rfl) rfl
theorem q1811 : (Jvm.Cond.stringRef "InnRoad" (333 : Nat) ";inn ") ∈ lw_tbl := lw_at lw_m8 62 rfl
theorem q1812 : (Jvm.Cond.methodLink "InnRoad" (296 : Nat) ({ cls := "java/lang/StringBuilder", name := "append", desc := "(Ljava/lang/String;)Ljava/lang/StringBuilder;" } : Jvm.MethodName)) ∈ lw_all := lw_g (lw_at lw_m8 63 rfl) rfl
theorem q1813 : (Jvm.Cond.methodLink "InnRoad" (302 : Nat) ({ cls := "java/lang/StringBuilder", name := "append", desc := "(C)Ljava/lang/StringBuilder;" } : Jvm.MethodName)) ∈ lw_all := lw_g (lw_at lw_m8 64 rfl) rfl
theorem q1814 : (Jvm.Cond.stringRef "InnRoad" (335 : Nat) " closed") ∈ lw_tbl := lw_at lw_m8 65 rfl
theorem q1815 : (Jvm.Cond.stringRef "InnRoad" (337 : Nat) " letters ") ∈ lw_tbl := lw_at lw_m8 66 rfl
theorem q1816 : (Jvm.Cond.methodLink "InnRoad" (339 : Nat) ({ cls := "InnRoad", name := "writeValues", desc := "(Ljava/lang/StringBuilder;)V" } : Jvm.MethodName)) ∈ lw_all := lw_g (lw_at lw_m8 67 rfl) rfl
theorem q1817 : (Jvm.Cond.privateMethod ({ cls := "InnRoad", name := "writeValues", desc := "(Ljava/lang/StringBuilder;)V" } : Jvm.MethodName)) ∈ lw_tbl := lw_at lw_m8 68 rfl
theorem q1818 : (Jvm.Cond.instanceMethod ({ cls := "InnRoad", name := "writeValues", desc := "(Ljava/lang/StringBuilder;)V" } : Jvm.MethodName)) ∈ lw_all := lw_g (lw_at lw_m8 69 rfl) rfl
theorem q1819 : (Jvm.Cond.code ({ cls := "InnRoad", name := "writeValues", desc := "(Ljava/lang/StringBuilder;)V" } : Jvm.MethodName) prog_1_method_79_code (4 : Nat) (Option.none : Option Jvm.ClassFile.FieldType)) ∈ lw_all := lw_g (lw_at lw_m8 70 rfl) rfl
theorem q1820 : (Jvm.Cond.stringRef "InnRoad" (314 : Nat) ";first ") ∈ lw_tbl := lw_at lw_m8 71 rfl
theorem q1821 : (Jvm.Cond.methodLink "InnRoad" (310 : Nat) ({ cls := "InnRoad", name := "writePointer", desc := "(Ljava/lang/StringBuilder;Ljava/lang/String;I)V" } : Jvm.MethodName)) ∈ lw_all := lw_g (lw_at lw_m8 72 rfl) rfl
theorem q1822 : (Jvm.Cond.static ({ cls := "InnRoad", name := "writePointer", desc := "(Ljava/lang/StringBuilder;Ljava/lang/String;I)V" } : Jvm.MethodName)) ∈ lw_all := lw_g (lw_at lw_m8 73 rfl) rfl
theorem q1823 : (Jvm.Cond.code ({ cls := "InnRoad", name := "writePointer", desc := "(Ljava/lang/StringBuilder;Ljava/lang/String;I)V" } : Jvm.MethodName) prog_1_method_77_code (3 : Nat) (Option.none : Option Jvm.ClassFile.FieldType)) ∈ lw_all := lw_g (lw_at lw_m8 74 rfl) rfl
theorem q1824 : (Jvm.Cond.stringRef "InnRoad" (316 : Nat) ";second ") ∈ lw_tbl := lw_at lw_m8 75 rfl
theorem q1825 : (Jvm.Cond.stringRef "InnRoad" (318 : Nat) ";count ") ∈ lw_tbl := lw_at lw_m8 76 rfl
theorem q1826 : (Jvm.Cond.stringRef "InnRoad" (320 : Nat) ";next ") ∈ lw_tbl := lw_at lw_m8 77 rfl
theorem q1827 : (Jvm.Cond.methodLink "InnRoad" (322 : Nat) ({ cls := "InnRoad", name := "writePointers", desc := "(Ljava/lang/StringBuilder;Ljava/lang/String;[I[I)V" } : Jvm.MethodName)) ∈ lw_all := lw_g (lw_at lw_m8 78 rfl) rfl
theorem q1828 : (Jvm.Cond.static ({ cls := "InnRoad", name := "writePointers", desc := "(Ljava/lang/StringBuilder;Ljava/lang/String;[I[I)V" } : Jvm.MethodName)) ∈ lw_all := lw_g (lw_at lw_m8 79 rfl) rfl
theorem q1829 : (Jvm.Cond.code ({ cls := "InnRoad", name := "writePointers", desc := "(Ljava/lang/StringBuilder;Ljava/lang/String;[I[I)V" } : Jvm.MethodName) prog_1_method_78_code (5 : Nat) (Option.none : Option Jvm.ClassFile.FieldType)) ∈ lw_all := lw_g (lw_at lw_m8 80 rfl) rfl
theorem q1830 : (Jvm.Cond.stringRef "InnRoad" (308 : Nat) " ") ∈ lw_tbl := lw_at lw_m8 81 rfl
theorem q1831 : (Jvm.Cond.stringRef "InnRoad" (326 : Nat) ";skip ") ∈ lw_tbl := lw_at lw_m8 82 rfl
theorem q1832 : (Jvm.Cond.methodLink "InnRoad" (343 : Nat) ({ cls := "java/lang/StringBuilder", name := "toString", desc := "()Ljava/lang/String;" } : Jvm.MethodName)) ∈ lw_all := lw_g (lw_at lw_m8 83 rfl) rfl
theorem q1833 : (Jvm.Cond.methodLink "InnRoad" (347 : Nat) ({ cls := "java/lang/String", name := "length", desc := "()I" } : Jvm.MethodName)) ∈ lw_all := lw_g (lw_at lw_m8 84 rfl) rfl
theorem q1839 : (Jvm.Cond.instanceMethod ({ cls := "InnRoad", name := "append", desc := "(IIIII)I" } : Jvm.MethodName)) ∈ lw_all := lw_g (lw_at lw_m8 90 rfl) rfl
theorem q1840 : (Jvm.Cond.selects "InnRoad" ({ cls := "InnRoad", name := "append", desc := "(IIIII)I" } : Jvm.MethodName) ({ cls := "InnRoad", name := "append", desc := "(IIIII)I" } : Jvm.MethodName)) ∈ lw_all := lw_g (lw_at lw_m8 91 rfl) rfl
theorem q1841 : (Jvm.Cond.code ({ cls := "InnRoad", name := "append", desc := "(IIIII)I" } : Jvm.MethodName) prog_1_method_12_code (9 : Nat) (Option.some Jvm.ClassFile.FieldType.int)) ∈ lw_all := lw_g (lw_at lw_m8 92 rfl) rfl
theorem q1842 : (Jvm.Cond.methodLink "InnRoad" (89 : Nat) ({ cls := "InnRoad", name := "byteOf", desc := "([II)I" } : Jvm.MethodName)) ∈ lw_all := lw_g (lw_at lw_m8 93 rfl) rfl
theorem q1843 : (Jvm.Cond.static ({ cls := "InnRoad", name := "byteOf", desc := "([II)I" } : Jvm.MethodName)) ∈ lw_all := lw_g (lw_at lw_m8 94 rfl) rfl
theorem q1844 : (Jvm.Cond.code ({ cls := "InnRoad", name := "byteOf", desc := "([II)I" } : Jvm.MethodName) prog_1_method_11_code (2 : Nat) (Option.some Jvm.ClassFile.FieldType.int)) ∈ lw_all := lw_g (lw_at lw_m8 95 rfl) rfl
theorem q1845 : (Jvm.Cond.methodLink "InnRoad" (96 : Nat) ({ cls := "InnRoad", name := "checkState", desc := "(Z)V" } : Jvm.MethodName)) ∈ lw_all := lw_g (lw_at lw_m8 96 rfl) rfl
theorem q1846 : (Jvm.Cond.static ({ cls := "InnRoad", name := "checkState", desc := "(Z)V" } : Jvm.MethodName)) ∈ lw_all := lw_g (lw_at lw_m8 97 rfl) rfl
theorem q1847 : (Jvm.Cond.code ({ cls := "InnRoad", name := "checkState", desc := "(Z)V" } : Jvm.MethodName) prog_1_method_5_code (1 : Nat) (Option.none : Option Jvm.ClassFile.FieldType)) ∈ lw_all := lw_g (lw_at lw_m8 98 rfl) rfl
theorem q1848 : (Jvm.Cond.classLink "InnRoad" (59 : Nat) "java/lang/IllegalStateException") ∈ lw_all := lw_g (lw_at lw_m8 99 rfl) rfl
theorem q1849 : (Jvm.Cond.methodLink "InnRoad" (61 : Nat) ({ cls := "java/lang/IllegalStateException", name := "<init>", desc := "()V" } : Jvm.MethodName)) ∈ lw_all := lw_g (lw_at lw_m8 100 rfl) rfl
theorem q1864 : (Jvm.Cond.instanceMethod ({ cls := "InnRoad", name := "truncate", desc := "(I)I" } : Jvm.MethodName)) ∈ lw_all := lw_g (lw_at lw_m8 115 rfl) rfl
theorem q1865 : (Jvm.Cond.selects "InnRoad" ({ cls := "InnRoad", name := "truncate", desc := "(I)I" } : Jvm.MethodName) ({ cls := "InnRoad", name := "truncate", desc := "(I)I" } : Jvm.MethodName)) ∈ lw_all := lw_g (lw_at lw_m8 116 rfl) rfl
theorem q1866 : (Jvm.Cond.code ({ cls := "InnRoad", name := "truncate", desc := "(I)I" } : Jvm.MethodName) prog_1_method_13_code (2 : Nat) (Option.some Jvm.ClassFile.FieldType.int)) ∈ lw_all := lw_g (lw_at lw_m8 117 rfl) rfl
theorem q1867 : (Jvm.Cond.methodLink "InnRoad" (3 : Nat) ({ cls := "InnRoad", name := "isBetween", desc := "(III)Z" } : Jvm.MethodName)) ∈ lw_all := lw_g (lw_at lw_m8 118 rfl) rfl
theorem q1868 : (Jvm.Cond.methodLink "InnRoad" (99 : Nat) ({ cls := "InnRoad", name := "checkArgument", desc := "(Z)V" } : Jvm.MethodName)) ∈ lw_all := lw_g (lw_at lw_m8 119 rfl) rfl
theorem q1869 : (Jvm.Cond.static ({ cls := "InnRoad", name := "checkArgument", desc := "(Z)V" } : Jvm.MethodName)) ∈ lw_all := lw_g (lw_at lw_m8 120 rfl) rfl
theorem q1870 : (Jvm.Cond.code ({ cls := "InnRoad", name := "checkArgument", desc := "(Z)V" } : Jvm.MethodName) prog_1_method_4_code (1 : Nat) (Option.none : Option Jvm.ClassFile.FieldType)) ∈ lw_all := lw_g (lw_at lw_m8 121 rfl) rfl
theorem q1871 : (Jvm.Cond.classLink "InnRoad" (56 : Nat) "java/lang/IllegalArgumentException") ∈ lw_all := lw_g (lw_at lw_m8 122 rfl) rfl
theorem q1872 : (Jvm.Cond.methodLink "InnRoad" (58 : Nat) ({ cls := "java/lang/IllegalArgumentException", name := "<init>", desc := "()V" } : Jvm.MethodName)) ∈ lw_all := lw_g (lw_at lw_m8 123 rfl) rfl
theorem q1880 : (Jvm.Cond.instanceMethod ({ cls := "InnRoad", name := "load", desc := "()I" } : Jvm.MethodName)) ∈ lw_all := lw_g (lw_at lw_m8 131 rfl) rfl
theorem q1881 : (Jvm.Cond.selects "InnRoad" ({ cls := "InnRoad", name := "load", desc := "()I" } : Jvm.MethodName) ({ cls := "InnRoad", name := "load", desc := "()I" } : Jvm.MethodName)) ∈ lw_all := lw_g (lw_at lw_m8 132 rfl) rfl
theorem q1882 : (Jvm.Cond.codeWith ({ cls := "InnRoad", name := "load", desc := "()I" } : Jvm.MethodName) prog_1_method_15_code (2 : Nat) (Option.some Jvm.ClassFile.FieldType.int) [((0 : Nat), (22 : Nat), (25 : Nat), (110 : Nat))]) ∈ lw_all := lw_g (lw_at lw_m8 133 rfl) rfl
theorem q1887 : (Jvm.Cond.instanceMethod ({ cls := "InnRoad", name := "addInn", desc := "(I)I" } : Jvm.MethodName)) ∈ lw_all := lw_g (lw_at lw_m8 138 rfl) rfl
theorem q1888 : (Jvm.Cond.selects "InnRoad" ({ cls := "InnRoad", name := "addInn", desc := "(I)I" } : Jvm.MethodName) ({ cls := "InnRoad", name := "addInn", desc := "(I)I" } : Jvm.MethodName)) ∈ lw_all := lw_g (lw_at lw_m8 139 rfl) rfl
theorem q1889 : (Jvm.Cond.code ({ cls := "InnRoad", name := "addInn", desc := "(I)I" } : Jvm.MethodName) prog_1_method_16_code (5 : Nat) (Option.some Jvm.ClassFile.FieldType.int)) ∈ lw_all := lw_g (lw_at lw_m8 140 rfl) rfl
theorem q1890 : (Jvm.Cond.methodLink "InnRoad" (122 : Nat) ({ cls := "InnRoad$Road", name := "emptyPlace", desc := "()I" } : Jvm.MethodName)) ∈ lw_all := lw_g (lw_at lw_m8 141 rfl) rfl
theorem q1914 : (Jvm.Cond.instanceMethod ({ cls := "InnRoad", name := "removeInn", desc := "(I)I" } : Jvm.MethodName)) ∈ lw_all := lw_g (lw_at lw_m8 165 rfl) rfl
theorem q1915 : (Jvm.Cond.selects "InnRoad" ({ cls := "InnRoad", name := "removeInn", desc := "(I)I" } : Jvm.MethodName) ({ cls := "InnRoad", name := "removeInn", desc := "(I)I" } : Jvm.MethodName)) ∈ lw_all := lw_g (lw_at lw_m8 166 rfl) rfl
theorem q1916 : (Jvm.Cond.code ({ cls := "InnRoad", name := "removeInn", desc := "(I)I" } : Jvm.MethodName) prog_1_method_17_code (5 : Nat) (Option.some Jvm.ClassFile.FieldType.int)) ∈ lw_all := lw_g (lw_at lw_m8 167 rfl) rfl
theorem q1917 : (Jvm.Cond.methodLink "InnRoad" (73 : Nat) ({ cls := "InnRoad", name := "inn", desc := "(I)LInnRoad$Inn;" } : Jvm.MethodName)) ∈ lw_all := lw_g (lw_at lw_m8 168 rfl) rfl
theorem q1918 : (Jvm.Cond.privateMethod ({ cls := "InnRoad", name := "inn", desc := "(I)LInnRoad$Inn;" } : Jvm.MethodName)) ∈ lw_tbl := lw_at lw_m8 169 rfl
theorem q1919 : (Jvm.Cond.instanceMethod ({ cls := "InnRoad", name := "inn", desc := "(I)LInnRoad$Inn;" } : Jvm.MethodName)) ∈ lw_all := lw_g (lw_at lw_m8 170 rfl) rfl
theorem q1920 : (Jvm.Cond.code ({ cls := "InnRoad", name := "inn", desc := "(I)LInnRoad$Inn;" } : Jvm.MethodName) prog_1_method_7_code (2 : Nat) (Option.some (Jvm.ClassFile.FieldType.object "InnRoad$Inn"))) ∈ lw_all := lw_g (lw_at lw_m8 171 rfl) rfl
theorem q1921 : (Jvm.Cond.methodLink "InnRoad" (69 : Nat) ({ cls := "InnRoad", name := "checkIndex", desc := "(Z)V" } : Jvm.MethodName)) ∈ lw_all := lw_g (lw_at lw_m8 172 rfl) rfl
theorem q1922 : (Jvm.Cond.static ({ cls := "InnRoad", name := "checkIndex", desc := "(Z)V" } : Jvm.MethodName)) ∈ lw_all := lw_g (lw_at lw_m8 173 rfl) rfl
theorem q1923 : (Jvm.Cond.code ({ cls := "InnRoad", name := "checkIndex", desc := "(Z)V" } : Jvm.MethodName) prog_1_method_6_code (1 : Nat) (Option.none : Option Jvm.ClassFile.FieldType)) ∈ lw_all := lw_g (lw_at lw_m8 174 rfl) rfl
theorem q1924 : (Jvm.Cond.classLink "InnRoad" (62 : Nat) "java/lang/IndexOutOfBoundsException") ∈ lw_all := lw_g (lw_at lw_m8 175 rfl) rfl
theorem q1925 : (Jvm.Cond.methodLink "InnRoad" (64 : Nat) ({ cls := "java/lang/IndexOutOfBoundsException", name := "<init>", desc := "()V" } : Jvm.MethodName)) ∈ lw_all := lw_g (lw_at lw_m8 176 rfl) rfl
theorem q1933 : (Jvm.Cond.instanceMethod ({ cls := "InnRoad", name := "openInn", desc := "(I)Z" } : Jvm.MethodName)) ∈ lw_all := lw_g (lw_at lw_m8 184 rfl) rfl
theorem q1934 : (Jvm.Cond.selects "InnRoad" ({ cls := "InnRoad", name := "openInn", desc := "(I)Z" } : Jvm.MethodName) ({ cls := "InnRoad", name := "openInn", desc := "(I)Z" } : Jvm.MethodName)) ∈ lw_all := lw_g (lw_at lw_m8 185 rfl) rfl
theorem q1935 : (Jvm.Cond.code ({ cls := "InnRoad", name := "openInn", desc := "(I)Z" } : Jvm.MethodName) prog_1_method_19_code (2 : Nat) (Option.some Jvm.ClassFile.FieldType.boolean)) ∈ lw_all := lw_g (lw_at lw_m8 186 rfl) rfl
theorem q1936 : (Jvm.Cond.methodLink "InnRoad" (142 : Nat) ({ cls := "InnRoad", name := "setOpen", desc := "(IZ)Z" } : Jvm.MethodName)) ∈ lw_all := lw_g (lw_at lw_m8 187 rfl) rfl
theorem q1937 : (Jvm.Cond.privateMethod ({ cls := "InnRoad", name := "setOpen", desc := "(IZ)Z" } : Jvm.MethodName)) ∈ lw_tbl := lw_at lw_m8 188 rfl
theorem q1938 : (Jvm.Cond.instanceMethod ({ cls := "InnRoad", name := "setOpen", desc := "(IZ)Z" } : Jvm.MethodName)) ∈ lw_all := lw_g (lw_at lw_m8 189 rfl) rfl
theorem q1939 : (Jvm.Cond.code ({ cls := "InnRoad", name := "setOpen", desc := "(IZ)Z" } : Jvm.MethodName) prog_1_method_18_code (4 : Nat) (Option.some Jvm.ClassFile.FieldType.boolean)) ∈ lw_all := lw_g (lw_at lw_m8 190 rfl) rfl
theorem q1944 : (Jvm.Cond.instanceMethod ({ cls := "InnRoad", name := "closeInn", desc := "(I)Z" } : Jvm.MethodName)) ∈ lw_all := lw_g (lw_at lw_m8 195 rfl) rfl
theorem q1945 : (Jvm.Cond.selects "InnRoad" ({ cls := "InnRoad", name := "closeInn", desc := "(I)Z" } : Jvm.MethodName) ({ cls := "InnRoad", name := "closeInn", desc := "(I)Z" } : Jvm.MethodName)) ∈ lw_all := lw_g (lw_at lw_m8 196 rfl) rfl
theorem q1946 : (Jvm.Cond.code ({ cls := "InnRoad", name := "closeInn", desc := "(I)Z" } : Jvm.MethodName) prog_1_method_20_code (2 : Nat) (Option.some Jvm.ClassFile.FieldType.boolean)) ∈ lw_all := lw_g (lw_at lw_m8 197 rfl) rfl
theorem q1951 : (Jvm.Cond.instanceMethod ({ cls := "InnRoad", name := "snow", desc := "(II)I" } : Jvm.MethodName)) ∈ lw_all := lw_g (lw_at lw_m8 202 rfl) rfl
theorem q1952 : (Jvm.Cond.selects "InnRoad" ({ cls := "InnRoad", name := "snow", desc := "(II)I" } : Jvm.MethodName) ({ cls := "InnRoad", name := "snow", desc := "(II)I" } : Jvm.MethodName)) ∈ lw_all := lw_g (lw_at lw_m8 203 rfl) rfl
theorem q1953 : (Jvm.Cond.code ({ cls := "InnRoad", name := "snow", desc := "(II)I" } : Jvm.MethodName) prog_1_method_21_code (6 : Nat) (Option.some Jvm.ClassFile.FieldType.int)) ∈ lw_all := lw_g (lw_at lw_m8 204 rfl) rfl
theorem q1958 : (Jvm.Cond.instanceMethod ({ cls := "InnRoad", name := "setRange", desc := "(I)I" } : Jvm.MethodName)) ∈ lw_all := lw_g (lw_at lw_m8 209 rfl) rfl
theorem q1959 : (Jvm.Cond.selects "InnRoad" ({ cls := "InnRoad", name := "setRange", desc := "(I)I" } : Jvm.MethodName) ({ cls := "InnRoad", name := "setRange", desc := "(I)I" } : Jvm.MethodName)) ∈ lw_all := lw_g (lw_at lw_m8 210 rfl) rfl
theorem q1960 : (Jvm.Cond.code ({ cls := "InnRoad", name := "setRange", desc := "(I)I" } : Jvm.MethodName) prog_1_method_23_code (3 : Nat) (Option.some Jvm.ClassFile.FieldType.int)) ∈ lw_all := lw_g (lw_at lw_m8 211 rfl) rfl
theorem q1965 : (Jvm.Cond.instanceMethod ({ cls := "InnRoad", name := "setNext", desc := "(II)I" } : Jvm.MethodName)) ∈ lw_all := lw_g (lw_at lw_m8 216 rfl) rfl
theorem q1966 : (Jvm.Cond.selects "InnRoad" ({ cls := "InnRoad", name := "setNext", desc := "(II)I" } : Jvm.MethodName) ({ cls := "InnRoad", name := "setNext", desc := "(II)I" } : Jvm.MethodName)) ∈ lw_all := lw_g (lw_at lw_m8 217 rfl) rfl
theorem q1967 : (Jvm.Cond.code ({ cls := "InnRoad", name := "setNext", desc := "(II)I" } : Jvm.MethodName) prog_1_method_24_code (5 : Nat) (Option.some Jvm.ClassFile.FieldType.int)) ∈ lw_all := lw_g (lw_at lw_m8 218 rfl) rfl
theorem q1968 : (Jvm.Cond.methodLink "InnRoad" (152 : Nat) ({ cls := "InnRoad", name := "isPointer", desc := "(I)Z" } : Jvm.MethodName)) ∈ lw_all := lw_g (lw_at lw_m8 219 rfl) rfl
theorem q1969 : (Jvm.Cond.static ({ cls := "InnRoad", name := "isPointer", desc := "(I)Z" } : Jvm.MethodName)) ∈ lw_all := lw_g (lw_at lw_m8 220 rfl) rfl
theorem q1970 : (Jvm.Cond.code ({ cls := "InnRoad", name := "isPointer", desc := "(I)Z" } : Jvm.MethodName) prog_1_method_2_code (1 : Nat) (Option.some Jvm.ClassFile.FieldType.boolean)) ∈ lw_all := lw_g (lw_at lw_m8 221 rfl) rfl
theorem q1975 : (Jvm.Cond.instanceMethod ({ cls := "InnRoad", name := "setSkip", desc := "(II)I" } : Jvm.MethodName)) ∈ lw_all := lw_g (lw_at lw_m8 226 rfl) rfl
theorem q1976 : (Jvm.Cond.selects "InnRoad" ({ cls := "InnRoad", name := "setSkip", desc := "(II)I" } : Jvm.MethodName) ({ cls := "InnRoad", name := "setSkip", desc := "(II)I" } : Jvm.MethodName)) ∈ lw_all := lw_g (lw_at lw_m8 227 rfl) rfl
theorem q1977 : (Jvm.Cond.code ({ cls := "InnRoad", name := "setSkip", desc := "(II)I" } : Jvm.MethodName) prog_1_method_25_code (5 : Nat) (Option.some Jvm.ClassFile.FieldType.int)) ∈ lw_all := lw_g (lw_at lw_m8 228 rfl) rfl
theorem q1982 : (Jvm.Cond.instanceMethod ({ cls := "InnRoad", name := "setFirst", desc := "(I)I" } : Jvm.MethodName)) ∈ lw_all := lw_g (lw_at lw_m8 233 rfl) rfl
theorem q1983 : (Jvm.Cond.selects "InnRoad" ({ cls := "InnRoad", name := "setFirst", desc := "(I)I" } : Jvm.MethodName) ({ cls := "InnRoad", name := "setFirst", desc := "(I)I" } : Jvm.MethodName)) ∈ lw_all := lw_g (lw_at lw_m8 234 rfl) rfl
theorem q1984 : (Jvm.Cond.code ({ cls := "InnRoad", name := "setFirst", desc := "(I)I" } : Jvm.MethodName) prog_1_method_26_code (3 : Nat) (Option.some Jvm.ClassFile.FieldType.int)) ∈ lw_all := lw_g (lw_at lw_m8 235 rfl) rfl
theorem q1989 : (Jvm.Cond.instanceMethod ({ cls := "InnRoad", name := "setSecond", desc := "(I)I" } : Jvm.MethodName)) ∈ lw_all := lw_g (lw_at lw_m9 0 rfl) rfl
theorem q1990 : (Jvm.Cond.selects "InnRoad" ({ cls := "InnRoad", name := "setSecond", desc := "(I)I" } : Jvm.MethodName) ({ cls := "InnRoad", name := "setSecond", desc := "(I)I" } : Jvm.MethodName)) ∈ lw_all := lw_g (lw_at lw_m9 1 rfl) rfl
theorem q1991 : (Jvm.Cond.code ({ cls := "InnRoad", name := "setSecond", desc := "(I)I" } : Jvm.MethodName) prog_1_method_27_code (3 : Nat) (Option.some Jvm.ClassFile.FieldType.int)) ∈ lw_all := lw_g (lw_at lw_m9 2 rfl) rfl
theorem q1996 : (Jvm.Cond.instanceMethod ({ cls := "InnRoad", name := "setStoredCount", desc := "(I)I" } : Jvm.MethodName)) ∈ lw_all := lw_g (lw_at lw_m9 7 rfl) rfl
theorem q1997 : (Jvm.Cond.selects "InnRoad" ({ cls := "InnRoad", name := "setStoredCount", desc := "(I)I" } : Jvm.MethodName) ({ cls := "InnRoad", name := "setStoredCount", desc := "(I)I" } : Jvm.MethodName)) ∈ lw_all := lw_g (lw_at lw_m9 8 rfl) rfl
theorem q1998 : (Jvm.Cond.code ({ cls := "InnRoad", name := "setStoredCount", desc := "(I)I" } : Jvm.MethodName) prog_1_method_28_code (3 : Nat) (Option.some Jvm.ClassFile.FieldType.int)) ∈ lw_all := lw_g (lw_at lw_m9 9 rfl) rfl
theorem q2003 : (Jvm.Cond.instanceMethod ({ cls := "InnRoad", name := "repair", desc := "()I" } : Jvm.MethodName)) ∈ lw_all := lw_g (lw_at lw_m9 14 rfl) rfl
theorem q2004 : (Jvm.Cond.selects "InnRoad" ({ cls := "InnRoad", name := "repair", desc := "()I" } : Jvm.MethodName) ({ cls := "InnRoad", name := "repair", desc := "()I" } : Jvm.MethodName)) ∈ lw_all := lw_g (lw_at lw_m9 15 rfl) rfl
theorem q2005 : (Jvm.Cond.code ({ cls := "InnRoad", name := "repair", desc := "()I" } : Jvm.MethodName) prog_1_method_29_code (3 : Nat) (Option.some Jvm.ClassFile.FieldType.int)) ∈ lw_all := lw_g (lw_at lw_m9 16 rfl) rfl
theorem q2006 : (Jvm.Cond.methodLink "InnRoad" (181 : Nat) ({ cls := "InnRoad$Road", name := "repairedValue", desc := "()I" } : Jvm.MethodName)) ∈ lw_all := lw_g (lw_at lw_m9 17 rfl) rfl
theorem q2015 : (Jvm.Cond.instanceMethod ({ cls := "InnRoad", name := "leaveLetters", desc := "(II)I" } : Jvm.MethodName)) ∈ lw_all := lw_g (lw_at lw_m9 26 rfl) rfl
theorem q2016 : (Jvm.Cond.selects "InnRoad" ({ cls := "InnRoad", name := "leaveLetters", desc := "(II)I" } : Jvm.MethodName) ({ cls := "InnRoad", name := "leaveLetters", desc := "(II)I" } : Jvm.MethodName)) ∈ lw_all := lw_g (lw_at lw_m9 27 rfl) rfl
theorem q2017 : (Jvm.Cond.code ({ cls := "InnRoad", name := "leaveLetters", desc := "(II)I" } : Jvm.MethodName) prog_1_method_31_code (4 : Nat) (Option.some Jvm.ClassFile.FieldType.int)) ∈ lw_all := lw_g (lw_at lw_m9 28 rfl) rfl
theorem q2018 : (Jvm.Cond.methodLink "InnRoad" (184 : Nat) ({ cls := "InnRoad$Inn", name := "withLetters", desc := "(I)LInnRoad$Inn;" } : Jvm.MethodName)) ∈ lw_all := lw_g (lw_at lw_m9 29 rfl) rfl
theorem q2026 : (Jvm.Cond.instanceMethod ({ cls := "InnRoad", name := "send", desc := "(II)I" } : Jvm.MethodName)) ∈ lw_all := lw_g (lw_at lw_m9 37 rfl) rfl
theorem q2027 : (Jvm.Cond.selects "InnRoad" ({ cls := "InnRoad", name := "send", desc := "(II)I" } : Jvm.MethodName) ({ cls := "InnRoad", name := "send", desc := "(II)I" } : Jvm.MethodName)) ∈ lw_all := lw_g (lw_at lw_m9 38 rfl) rfl
theorem q2028 : (Jvm.Cond.code ({ cls := "InnRoad", name := "send", desc := "(II)I" } : Jvm.MethodName) prog_1_method_32_code (7 : Nat) (Option.some Jvm.ClassFile.FieldType.int)) ∈ lw_all := lw_g (lw_at lw_m9 39 rfl) rfl
theorem q2029 : (Jvm.Cond.classLink "InnRoad" (187 : Nat) "InnRoad$Ride") ∈ lw_all := lw_g (lw_at lw_m9 40 rfl) rfl
theorem q2031 : (Jvm.Cond.methodLink "InnRoad" (189 : Nat) ({ cls := "InnRoad$Ride", name := "<init>", desc := "(LInnRoad$Road;III)V" } : Jvm.MethodName)) ∈ lw_all := lw_g (lw_at lw_m9 42 rfl) rfl
theorem q2046 : (Jvm.Cond.fieldLinkNest "InnRoad" (192 : Nat) "InnRoad$Ride" "hasArrived" "Z" "InnRoad") ∈ lw_tbl := lw_at lw_m9 57 rfl
theorem q2048 : (Jvm.Cond.fieldLinkNest "InnRoad" (271 : Nat) "InnRoad$Ride" "isStuck" "Z" "InnRoad") ∈ lw_tbl := lw_at lw_m9 59 rfl
theorem q2050 : (Jvm.Cond.fieldLinkNest "InnRoad" (274 : Nat) "InnRoad$Ride" "end" "I" "InnRoad") ∈ lw_tbl := lw_at lw_m9 61 rfl
theorem q2052 : (Jvm.Cond.fieldLinkNest "InnRoad" (198 : Nat) "InnRoad$Ride" "stages" "I" "InnRoad") ∈ lw_tbl := lw_at lw_m9 63 rfl
theorem q2054 : (Jvm.Cond.fieldLinkNest "InnRoad" (281 : Nat) "InnRoad$Ride" "skips" "I" "InnRoad") ∈ lw_tbl := lw_at lw_m9 65 rfl
theorem q2056 : (Jvm.Cond.fieldLinkNest "InnRoad" (268 : Nat) "InnRoad$Ride" "length" "I" "InnRoad") ∈ lw_tbl := lw_at lw_m9 67 rfl
theorem q2074 : (Jvm.Cond.instanceMethod ({ cls := "InnRoad", name := "restore", desc := "()I" } : Jvm.MethodName)) ∈ lw_all := lw_g (lw_at lw_m9 85 rfl) rfl
theorem q2075 : (Jvm.Cond.selects "InnRoad" ({ cls := "InnRoad", name := "restore", desc := "()I" } : Jvm.MethodName) ({ cls := "InnRoad", name := "restore", desc := "()I" } : Jvm.MethodName)) ∈ lw_all := lw_g (lw_at lw_m9 86 rfl) rfl
theorem q2076 : (Jvm.Cond.code ({ cls := "InnRoad", name := "restore", desc := "()I" } : Jvm.MethodName) prog_1_method_33_code (1 : Nat) (Option.some Jvm.ClassFile.FieldType.int)) ∈ lw_all := lw_g (lw_at lw_m9 87 rfl) rfl
theorem q2081 : (Jvm.Cond.instanceMethod ({ cls := "InnRoad", name := "undo", desc := "()I" } : Jvm.MethodName)) ∈ lw_all := lw_g (lw_at lw_m9 92 rfl) rfl
theorem q2082 : (Jvm.Cond.selects "InnRoad" ({ cls := "InnRoad", name := "undo", desc := "()I" } : Jvm.MethodName) ({ cls := "InnRoad", name := "undo", desc := "()I" } : Jvm.MethodName)) ∈ lw_all := lw_g (lw_at lw_m9 93 rfl) rfl
theorem q2083 : (Jvm.Cond.code ({ cls := "InnRoad", name := "undo", desc := "()I" } : Jvm.MethodName) prog_1_method_34_code (1 : Nat) (Option.some Jvm.ClassFile.FieldType.int)) ∈ lw_all := lw_g (lw_at lw_m9 94 rfl) rfl
theorem q2084 : (Jvm.Cond.methodLink "InnRoad" (208 : Nat) ({ cls := "InnRoad$History", name := "takeLatest", desc := "()LInnRoad$Copyable;" } : Jvm.MethodName)) ∈ lw_all := lw_g (lw_at lw_m9 95 rfl) rfl
theorem q2103 : (Jvm.Cond.instanceMethod ({ cls := "InnRoad", name := "hasInn", desc := "(I)Z" } : Jvm.MethodName)) ∈ lw_all := lw_g (lw_at lw_m9 114 rfl) rfl
theorem q2104 : (Jvm.Cond.selects "InnRoad" ({ cls := "InnRoad", name := "hasInn", desc := "(I)Z" } : Jvm.MethodName) ({ cls := "InnRoad", name := "hasInn", desc := "(I)Z" } : Jvm.MethodName)) ∈ lw_all := lw_g (lw_at lw_m9 115 rfl) rfl
theorem q2105 : (Jvm.Cond.code ({ cls := "InnRoad", name := "hasInn", desc := "(I)Z" } : Jvm.MethodName) prog_1_method_38_code (2 : Nat) (Option.some Jvm.ClassFile.FieldType.boolean)) ∈ lw_all := lw_g (lw_at lw_m9 116 rfl) rfl
theorem q2110 : (Jvm.Cond.instanceMethod ({ cls := "InnRoad", name := "mile", desc := "(I)I" } : Jvm.MethodName)) ∈ lw_all := lw_g (lw_at lw_m9 121 rfl) rfl
theorem q2111 : (Jvm.Cond.selects "InnRoad" ({ cls := "InnRoad", name := "mile", desc := "(I)I" } : Jvm.MethodName) ({ cls := "InnRoad", name := "mile", desc := "(I)I" } : Jvm.MethodName)) ∈ lw_all := lw_g (lw_at lw_m9 122 rfl) rfl
theorem q2112 : (Jvm.Cond.code ({ cls := "InnRoad", name := "mile", desc := "(I)I" } : Jvm.MethodName) prog_1_method_39_code (2 : Nat) (Option.some Jvm.ClassFile.FieldType.int)) ∈ lw_all := lw_g (lw_at lw_m9 123 rfl) rfl
theorem q2117 : (Jvm.Cond.instanceMethod ({ cls := "InnRoad", name := "next", desc := "(I)I" } : Jvm.MethodName)) ∈ lw_all := lw_g (lw_at lw_m9 128 rfl) rfl
theorem q2118 : (Jvm.Cond.selects "InnRoad" ({ cls := "InnRoad", name := "next", desc := "(I)I" } : Jvm.MethodName) ({ cls := "InnRoad", name := "next", desc := "(I)I" } : Jvm.MethodName)) ∈ lw_all := lw_g (lw_at lw_m9 129 rfl) rfl
theorem q2119 : (Jvm.Cond.code ({ cls := "InnRoad", name := "next", desc := "(I)I" } : Jvm.MethodName) prog_1_method_40_code (3 : Nat) (Option.some Jvm.ClassFile.FieldType.int)) ∈ lw_all := lw_g (lw_at lw_m9 130 rfl) rfl
theorem q2124 : (Jvm.Cond.instanceMethod ({ cls := "InnRoad", name := "skip", desc := "(I)I" } : Jvm.MethodName)) ∈ lw_all := lw_g (lw_at lw_m9 135 rfl) rfl
theorem q2125 : (Jvm.Cond.selects "InnRoad" ({ cls := "InnRoad", name := "skip", desc := "(I)I" } : Jvm.MethodName) ({ cls := "InnRoad", name := "skip", desc := "(I)I" } : Jvm.MethodName)) ∈ lw_all := lw_g (lw_at lw_m9 136 rfl) rfl
theorem q2126 : (Jvm.Cond.code ({ cls := "InnRoad", name := "skip", desc := "(I)I" } : Jvm.MethodName) prog_1_method_41_code (3 : Nat) (Option.some Jvm.ClassFile.FieldType.int)) ∈ lw_all := lw_g (lw_at lw_m9 137 rfl) rfl
theorem q2131 : (Jvm.Cond.instanceMethod ({ cls := "InnRoad", name := "isOpen", desc := "(I)Z" } : Jvm.MethodName)) ∈ lw_all := lw_g (lw_at lw_m9 142 rfl) rfl
theorem q2132 : (Jvm.Cond.selects "InnRoad" ({ cls := "InnRoad", name := "isOpen", desc := "(I)Z" } : Jvm.MethodName) ({ cls := "InnRoad", name := "isOpen", desc := "(I)Z" } : Jvm.MethodName)) ∈ lw_all := lw_g (lw_at lw_m9 143 rfl) rfl
theorem q2133 : (Jvm.Cond.code ({ cls := "InnRoad", name := "isOpen", desc := "(I)Z" } : Jvm.MethodName) prog_1_method_42_code (2 : Nat) (Option.some Jvm.ClassFile.FieldType.boolean)) ∈ lw_all := lw_g (lw_at lw_m9 144 rfl) rfl
theorem q2138 : (Jvm.Cond.instanceMethod ({ cls := "InnRoad", name := "letters", desc := "(I)I" } : Jvm.MethodName)) ∈ lw_all := lw_g (lw_at lw_m9 149 rfl) rfl
theorem q2139 : (Jvm.Cond.selects "InnRoad" ({ cls := "InnRoad", name := "letters", desc := "(I)I" } : Jvm.MethodName) ({ cls := "InnRoad", name := "letters", desc := "(I)I" } : Jvm.MethodName)) ∈ lw_all := lw_g (lw_at lw_m9 150 rfl) rfl
theorem q2140 : (Jvm.Cond.code ({ cls := "InnRoad", name := "letters", desc := "(I)I" } : Jvm.MethodName) prog_1_method_43_code (2 : Nat) (Option.some Jvm.ClassFile.FieldType.int)) ∈ lw_all := lw_g (lw_at lw_m9 151 rfl) rfl
theorem q2145 : (Jvm.Cond.instanceMethod ({ cls := "InnRoad", name := "chainInn", desc := "(I)I" } : Jvm.MethodName)) ∈ lw_all := lw_g (lw_at lw_m9 156 rfl) rfl
theorem q2146 : (Jvm.Cond.selects "InnRoad" ({ cls := "InnRoad", name := "chainInn", desc := "(I)I" } : Jvm.MethodName) ({ cls := "InnRoad", name := "chainInn", desc := "(I)I" } : Jvm.MethodName)) ∈ lw_all := lw_g (lw_at lw_m9 157 rfl) rfl
theorem q2147 : (Jvm.Cond.code ({ cls := "InnRoad", name := "chainInn", desc := "(I)I" } : Jvm.MethodName) prog_1_method_57_code (3 : Nat) (Option.some Jvm.ClassFile.FieldType.int)) ∈ lw_all := lw_g (lw_at lw_m9 158 rfl) rfl
theorem q2152 : (Jvm.Cond.instanceMethod ({ cls := "InnRoad", name := "position", desc := "(I)I" } : Jvm.MethodName)) ∈ lw_all := lw_g (lw_at lw_m9 163 rfl) rfl
theorem q2153 : (Jvm.Cond.selects "InnRoad" ({ cls := "InnRoad", name := "position", desc := "(I)I" } : Jvm.MethodName) ({ cls := "InnRoad", name := "position", desc := "(I)I" } : Jvm.MethodName)) ∈ lw_all := lw_g (lw_at lw_m9 164 rfl) rfl
theorem q2154 : (Jvm.Cond.code ({ cls := "InnRoad", name := "position", desc := "(I)I" } : Jvm.MethodName) prog_1_method_58_code (3 : Nat) (Option.some Jvm.ClassFile.FieldType.int)) ∈ lw_all := lw_g (lw_at lw_m9 165 rfl) rfl
theorem q2155 : (Jvm.Cond.methodLink "InnRoad" (235 : Nat) ({ cls := "java/lang/Integer", name := "valueOf", desc := "(I)Ljava/lang/Integer;" } : Jvm.MethodName)) ∈ lw_all := lw_g (lw_at lw_m9 166 rfl) rfl
theorem q2156 : (Jvm.Cond.interfaceEntry "InnRoad" (239 : Nat)) ∈ lw_tbl := lw_at lw_m9 167 rfl
theorem q2157 : (Jvm.Cond.methodLink "InnRoad" (239 : Nat) ({ cls := "java/util/List", name := "indexOf", desc := "(Ljava/lang/Object;)I" } : Jvm.MethodName)) ∈ lw_all := lw_g (lw_at lw_m9 168 rfl) rfl
theorem q2167 : (Jvm.Cond.instanceMethod ({ cls := "InnRoad", name := "isReachable", desc := "(II)Z" } : Jvm.MethodName)) ∈ lw_all := lw_g (lw_at lw_m9 178 rfl) rfl
theorem q2168 : (Jvm.Cond.selects "InnRoad" ({ cls := "InnRoad", name := "isReachable", desc := "(II)Z" } : Jvm.MethodName) ({ cls := "InnRoad", name := "isReachable", desc := "(II)Z" } : Jvm.MethodName)) ∈ lw_all := lw_g (lw_at lw_m9 179 rfl) rfl
theorem q2169 : (Jvm.Cond.code ({ cls := "InnRoad", name := "isReachable", desc := "(II)Z" } : Jvm.MethodName) prog_1_method_66_code (3 : Nat) (Option.some Jvm.ClassFile.FieldType.boolean)) ∈ lw_all := lw_g (lw_at lw_m9 180 rfl) rfl
theorem q2170 : (Jvm.Cond.methodLink "InnRoad" (264 : Nat) ({ cls := "InnRoad", name := "ride", desc := "(II)LInnRoad$Ride;" } : Jvm.MethodName)) ∈ lw_all := lw_g (lw_at lw_m9 181 rfl) rfl
theorem q2171 : (Jvm.Cond.privateMethod ({ cls := "InnRoad", name := "ride", desc := "(II)LInnRoad$Ride;" } : Jvm.MethodName)) ∈ lw_tbl := lw_at lw_m9 182 rfl
theorem q2172 : (Jvm.Cond.instanceMethod ({ cls := "InnRoad", name := "ride", desc := "(II)LInnRoad$Ride;" } : Jvm.MethodName)) ∈ lw_all := lw_g (lw_at lw_m9 183 rfl) rfl
theorem q2173 : (Jvm.Cond.code ({ cls := "InnRoad", name := "ride", desc := "(II)LInnRoad$Ride;" } : Jvm.MethodName) prog_1_method_65_code (3 : Nat) (Option.some (Jvm.ClassFile.FieldType.object "InnRoad$Ride"))) ∈ lw_all := lw_g (lw_at lw_m9 184 rfl) rfl
theorem q2174 : (Jvm.Cond.methodLink "InnRoad" (260 : Nat) ({ cls := "InnRoad", name := "checkInns", desc := "(II)V" } : Jvm.MethodName)) ∈ lw_all := lw_g (lw_at lw_m9 185 rfl) rfl
theorem q2175 : (Jvm.Cond.privateMethod ({ cls := "InnRoad", name := "checkInns", desc := "(II)V" } : Jvm.MethodName)) ∈ lw_tbl := lw_at lw_m9 186 rfl
theorem q2176 : (Jvm.Cond.instanceMethod ({ cls := "InnRoad", name := "checkInns", desc := "(II)V" } : Jvm.MethodName)) ∈ lw_all := lw_g (lw_at lw_m9 187 rfl) rfl
theorem q2177 : (Jvm.Cond.code ({ cls := "InnRoad", name := "checkInns", desc := "(II)V" } : Jvm.MethodName) prog_1_method_8_code (5 : Nat) (Option.none : Option Jvm.ClassFile.FieldType)) ∈ lw_all := lw_g (lw_at lw_m9 188 rfl) rfl
theorem q2182 : (Jvm.Cond.instanceMethod ({ cls := "InnRoad", name := "stages", desc := "(II)I" } : Jvm.MethodName)) ∈ lw_all := lw_g (lw_at lw_m9 193 rfl) rfl
theorem q2183 : (Jvm.Cond.selects "InnRoad" ({ cls := "InnRoad", name := "stages", desc := "(II)I" } : Jvm.MethodName) ({ cls := "InnRoad", name := "stages", desc := "(II)I" } : Jvm.MethodName)) ∈ lw_all := lw_g (lw_at lw_m9 194 rfl) rfl
theorem q2184 : (Jvm.Cond.code ({ cls := "InnRoad", name := "stages", desc := "(II)I" } : Jvm.MethodName) prog_1_method_67_code (4 : Nat) (Option.some Jvm.ClassFile.FieldType.int)) ∈ lw_all := lw_g (lw_at lw_m9 195 rfl) rfl
theorem q2189 : (Jvm.Cond.instanceMethod ({ cls := "InnRoad", name := "rideLength", desc := "(II)I" } : Jvm.MethodName)) ∈ lw_all := lw_g (lw_at lw_m9 200 rfl) rfl
theorem q2190 : (Jvm.Cond.selects "InnRoad" ({ cls := "InnRoad", name := "rideLength", desc := "(II)I" } : Jvm.MethodName) ({ cls := "InnRoad", name := "rideLength", desc := "(II)I" } : Jvm.MethodName)) ∈ lw_all := lw_g (lw_at lw_m9 201 rfl) rfl
theorem q2191 : (Jvm.Cond.code ({ cls := "InnRoad", name := "rideLength", desc := "(II)I" } : Jvm.MethodName) prog_1_method_68_code (4 : Nat) (Option.some Jvm.ClassFile.FieldType.int)) ∈ lw_all := lw_g (lw_at lw_m9 202 rfl) rfl
theorem q2196 : (Jvm.Cond.instanceMethod ({ cls := "InnRoad", name := "stuckAt", desc := "(II)I" } : Jvm.MethodName)) ∈ lw_all := lw_g (lw_at lw_m9 207 rfl) rfl
theorem q2197 : (Jvm.Cond.selects "InnRoad" ({ cls := "InnRoad", name := "stuckAt", desc := "(II)I" } : Jvm.MethodName) ({ cls := "InnRoad", name := "stuckAt", desc := "(II)I" } : Jvm.MethodName)) ∈ lw_all := lw_g (lw_at lw_m9 208 rfl) rfl
theorem q2198 : (Jvm.Cond.code ({ cls := "InnRoad", name := "stuckAt", desc := "(II)I" } : Jvm.MethodName) prog_1_method_69_code (4 : Nat) (Option.some Jvm.ClassFile.FieldType.int)) ∈ lw_all := lw_g (lw_at lw_m9 209 rfl) rfl
theorem q2203 : (Jvm.Cond.instanceMethod ({ cls := "InnRoad", name := "neededInns", desc := "(II)I" } : Jvm.MethodName)) ∈ lw_all := lw_g (lw_at lw_m9 214 rfl) rfl
theorem q2204 : (Jvm.Cond.selects "InnRoad" ({ cls := "InnRoad", name := "neededInns", desc := "(II)I" } : Jvm.MethodName) ({ cls := "InnRoad", name := "neededInns", desc := "(II)I" } : Jvm.MethodName)) ∈ lw_all := lw_g (lw_at lw_m9 215 rfl) rfl
theorem q2205 : (Jvm.Cond.code ({ cls := "InnRoad", name := "neededInns", desc := "(II)I" } : Jvm.MethodName) prog_1_method_71_code (6 : Nat) (Option.some Jvm.ClassFile.FieldType.int)) ∈ lw_all := lw_g (lw_at lw_m9 216 rfl) rfl
theorem q2206 : (Jvm.Cond.methodLink "InnRoad" (277 : Nat) ({ cls := "InnRoad", name := "isReachableIf", desc := "(IIIZ)Z" } : Jvm.MethodName)) ∈ lw_all := lw_g (lw_at lw_m9 217 rfl) rfl
theorem q2207 : (Jvm.Cond.privateMethod ({ cls := "InnRoad", name := "isReachableIf", desc := "(IIIZ)Z" } : Jvm.MethodName)) ∈ lw_tbl := lw_at lw_m9 218 rfl
theorem q2208 : (Jvm.Cond.instanceMethod ({ cls := "InnRoad", name := "isReachableIf", desc := "(IIIZ)Z" } : Jvm.MethodName)) ∈ lw_all := lw_g (lw_at lw_m9 219 rfl) rfl
theorem q2209 : (Jvm.Cond.code ({ cls := "InnRoad", name := "isReachableIf", desc := "(IIIZ)Z" } : Jvm.MethodName) prog_1_method_70_code (6 : Nat) (Option.some Jvm.ClassFile.FieldType.boolean)) ∈ lw_all := lw_g (lw_at lw_m9 220 rfl) rfl
theorem q2214 : (Jvm.Cond.instanceMethod ({ cls := "InnRoad", name := "leastRange", desc := "(II)I" } : Jvm.MethodName)) ∈ lw_all := lw_g (lw_at lw_m9 225 rfl) rfl
theorem q2215 : (Jvm.Cond.selects "InnRoad" ({ cls := "InnRoad", name := "leastRange", desc := "(II)I" } : Jvm.MethodName) ({ cls := "InnRoad", name := "leastRange", desc := "(II)I" } : Jvm.MethodName)) ∈ lw_all := lw_g (lw_at lw_m9 226 rfl) rfl
theorem q2216 : (Jvm.Cond.code ({ cls := "InnRoad", name := "leastRange", desc := "(II)I" } : Jvm.MethodName) prog_1_method_72_code (4 : Nat) (Option.some Jvm.ClassFile.FieldType.int)) ∈ lw_all := lw_g (lw_at lw_m9 227 rfl) rfl
theorem q2221 : (Jvm.Cond.instanceMethod ({ cls := "InnRoad", name := "helpfulOpening", desc := "(II)I" } : Jvm.MethodName)) ∈ lw_all := lw_g (lw_at lw_m9 232 rfl) rfl
theorem q2222 : (Jvm.Cond.selects "InnRoad" ({ cls := "InnRoad", name := "helpfulOpening", desc := "(II)I" } : Jvm.MethodName) ({ cls := "InnRoad", name := "helpfulOpening", desc := "(II)I" } : Jvm.MethodName)) ∈ lw_all := lw_g (lw_at lw_m9 233 rfl) rfl
theorem q2223 : (Jvm.Cond.code ({ cls := "InnRoad", name := "helpfulOpening", desc := "(II)I" } : Jvm.MethodName) prog_1_method_73_code (5 : Nat) (Option.some Jvm.ClassFile.FieldType.int)) ∈ lw_all := lw_g (lw_at lw_m9 234 rfl) rfl
theorem q2228 : (Jvm.Cond.instanceMethod ({ cls := "InnRoad", name := "reachableInns", desc := "(I)I" } : Jvm.MethodName)) ∈ lw_all := lw_g (lw_at lw_m9 239 rfl) rfl
theorem q2229 : (Jvm.Cond.selects "InnRoad" ({ cls := "InnRoad", name := "reachableInns", desc := "(I)I" } : Jvm.MethodName) ({ cls := "InnRoad", name := "reachableInns", desc := "(I)I" } : Jvm.MethodName)) ∈ lw_all := lw_g (lw_at lw_m10 0 rfl) rfl
theorem q2230 : (Jvm.Cond.code ({ cls := "InnRoad", name := "reachableInns", desc := "(I)I" } : Jvm.MethodName) prog_1_method_74_code (5 : Nat) (Option.some Jvm.ClassFile.FieldType.int)) ∈ lw_all := lw_g (lw_at lw_m10 1 rfl) rfl
theorem q2235 : (Jvm.Cond.instanceMethod ({ cls := "InnRoad", name := "skippingStages", desc := "(II)I" } : Jvm.MethodName)) ∈ lw_all := lw_g (lw_at lw_m10 6 rfl) rfl
theorem q2236 : (Jvm.Cond.selects "InnRoad" ({ cls := "InnRoad", name := "skippingStages", desc := "(II)I" } : Jvm.MethodName) ({ cls := "InnRoad", name := "skippingStages", desc := "(II)I" } : Jvm.MethodName)) ∈ lw_all := lw_g (lw_at lw_m10 7 rfl) rfl
theorem q2237 : (Jvm.Cond.code ({ cls := "InnRoad", name := "skippingStages", desc := "(II)I" } : Jvm.MethodName) prog_1_method_75_code (4 : Nat) (Option.some Jvm.ClassFile.FieldType.int)) ∈ lw_all := lw_g (lw_at lw_m10 8 rfl) rfl
theorem q2242 : (Jvm.Cond.instanceMethod ({ cls := "InnRoad", name := "nearestOpenInn", desc := "(I)I" } : Jvm.MethodName)) ∈ lw_all := lw_g (lw_at lw_m10 13 rfl) rfl
theorem q2243 : (Jvm.Cond.selects "InnRoad" ({ cls := "InnRoad", name := "nearestOpenInn", desc := "(I)I" } : Jvm.MethodName) ({ cls := "InnRoad", name := "nearestOpenInn", desc := "(I)I" } : Jvm.MethodName)) ∈ lw_all := lw_g (lw_at lw_m10 14 rfl) rfl
theorem q2244 : (Jvm.Cond.code ({ cls := "InnRoad", name := "nearestOpenInn", desc := "(I)I" } : Jvm.MethodName) prog_1_method_76_code (7 : Nat) (Option.some Jvm.ClassFile.FieldType.int)) ∈ lw_all := lw_g (lw_at lw_m10 15 rfl) rfl
theorem q2245 : (Jvm.Cond.interfaceEntry "InnRoad" (284 : Nat)) ∈ lw_tbl := lw_at lw_m10 16 rfl
theorem q2246 : (Jvm.Cond.methodLink "InnRoad" (284 : Nat) ({ cls := "java/util/List", name := "iterator", desc := "()Ljava/util/Iterator;" } : Jvm.MethodName)) ∈ lw_all := lw_g (lw_at lw_m10 17 rfl) rfl
theorem q2273 : (Jvm.Cond.interfaceEntry "InnRoad" (288 : Nat)) ∈ lw_tbl := lw_at lw_m10 44 rfl
theorem q2274 : (Jvm.Cond.methodLink "InnRoad" (288 : Nat) ({ cls := "java/util/Iterator", name := "hasNext", desc := "()Z" } : Jvm.MethodName)) ∈ lw_all := lw_g (lw_at lw_m10 45 rfl) rfl
theorem q2283 : (Jvm.Cond.interfaceEntry "InnRoad" (293 : Nat)) ∈ lw_tbl := lw_at lw_m10 54 rfl
theorem q2284 : (Jvm.Cond.methodLink "InnRoad" (293 : Nat) ({ cls := "java/util/Iterator", name := "next", desc := "()Ljava/lang/Object;" } : Jvm.MethodName)) ∈ lw_all := lw_g (lw_at lw_m10 55 rfl) rfl
theorem q2300 : (Jvm.Cond.instanceMethod ({ cls := "InnRoad", name := "written", desc := "(I)I" } : Jvm.MethodName)) ∈ lw_all := lw_g (lw_at lw_m10 71 rfl) rfl
theorem q2301 : (Jvm.Cond.selects "InnRoad" ({ cls := "InnRoad", name := "written", desc := "(I)I" } : Jvm.MethodName) ({ cls := "InnRoad", name := "written", desc := "(I)I" } : Jvm.MethodName)) ∈ lw_all := lw_g (lw_at lw_m10 72 rfl) rfl
theorem q2302 : (Jvm.Cond.code ({ cls := "InnRoad", name := "written", desc := "(I)I" } : Jvm.MethodName) prog_1_method_81_code (4 : Nat) (Option.some Jvm.ClassFile.FieldType.int)) ∈ lw_all := lw_g (lw_at lw_m10 73 rfl) rfl
theorem q2303 : (Jvm.Cond.methodLink "InnRoad" (351 : Nat) ({ cls := "java/lang/String", name := "charAt", desc := "(I)C" } : Jvm.MethodName)) ∈ lw_all := lw_g (lw_at lw_m10 74 rfl) rfl
theorem q2906 : (Jvm.Cond.castable "InnRoad" "java/lang/Object") ∈ lw_tbl := lw_at lw_m12 197 rfl
theorem in_X1 : ∀ w ∈ wsX10, w ∈ lw_all := lw_in wsX10 [768, 770, 772, 774, 776, 778] (by decide +kernel) (by decide +kernel)
