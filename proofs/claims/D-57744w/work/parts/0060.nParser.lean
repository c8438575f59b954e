/-! InnRoad$Parser -/
set_option maxRecDepth 100000
def RX7 : String := "InnRoad$Parser"
def TX7 : u_T := fun k => match k with
  | 0 => ("InnRoad$Parser", "bytes", "[B", true)
  | 1 => ("InnRoad$Parser", "length", "I", true)
  | 2 => ("InnRoad$Parser", "at", "I", false)
  | 3 => ("InnRoad$Parser", "start", "I", false)
  | 4 => ("InnRoad$Parser", "kind", "LInnRoad$TokenKind;", false)
  | 5 => ("InnRoad$Parser", "word", "Ljava/lang/String;", false)
  | 6 => ("InnRoad$Parser", "number", "I", false)
  | _ => ("InnRoad$Parser", "latest", "Ljava/util/Map;", true)
def tyX7 : Nat → FieldType := fun k => match k with
  | 0 => .array .byte
  | 1 => .int
  | 2 => .int
  | 3 => .int
  | 4 => .object "InnRoad$TokenKind"
  | 5 => .object "java/lang/String"
  | 6 => .int
  | _ => .object "java/util/Map"
abbrev wsX70 : List Cond := u_ws RX7 TX7 8
theorem nmX7 : ∀ a, a < 8 → ∀ b, b < 8 → a ≠ b → (TX7 a).2.1 ≠ (TX7 b).2.1 := by decide +kernel
theorem tyX7_ok : ∀ k, k < 8 → parseFieldDescriptor (TX7 k).2.2.1 = some (tyX7 k) := by decide +kernel
abbrev cX7_init : ByteArray := prog_6_method_1_code
def yX7_init : MethodName := ⟨RX7, "<init>", "([BI)V"⟩
def dkwX7_init_1 : List UInt8 := [181, 0, 22, 177]
abbrev dktX7_init_1 : List UInt8 := dkwX7_init_1 ++ []
def dkwX7_init_0 : List UInt8 := [42, 183, 0, 3, 42, 187, 0, 9, 89, 183, 0, 11, 181, 0, 12, 42, 43, 181, 0, 18, 42, 28]
abbrev dktX7_init_0 : List UInt8 := dkwX7_init_0 ++ dktX7_init_1
theorem dksX7_init_0 : cX7_init.data.toList.drop 0 = dktX7_init_0 := by decide +kernel
theorem dksX7_init_1 : cX7_init.data.toList.drop 22 = dktX7_init_1 := dk_seg dksX7_init_0 22 rfl rfl
theorem dX7_init_0 : decode cX7_init 0 = .ok (.aload_n 0, 1) := dk_42 (dk_at dksX7_init_0 0 rfl rfl)
theorem dX7_init_1 : decode cX7_init 1 = .ok (.invokespecial 3, 3) := dk_183 0 3 (dk_at dksX7_init_0 1 rfl rfl)
theorem dX7_init_4 : decode cX7_init 4 = .ok (.aload_n 0, 1) := dk_42 (dk_at dksX7_init_0 4 rfl rfl)
theorem dX7_init_5 : decode cX7_init 5 = .ok (.new 9, 3) := dk_187 0 9 (dk_at dksX7_init_0 5 rfl rfl)
theorem dX7_init_8 : decode cX7_init 8 = .ok (.dup, 1) := dk_89 (dk_at dksX7_init_0 8 rfl rfl)
theorem dX7_init_9 : decode cX7_init 9 = .ok (.invokespecial 11, 3) := dk_183 0 11 (dk_at dksX7_init_0 9 rfl rfl)
theorem dX7_init_12 : decode cX7_init 12 = .ok (.putfield 12, 3) := dk_181 0 12 (dk_at dksX7_init_0 12 rfl rfl)
theorem dX7_init_15 : decode cX7_init 15 = .ok (.aload_n 0, 1) := dk_42 (dk_at dksX7_init_0 15 rfl rfl)
theorem dX7_init_16 : decode cX7_init 16 = .ok (.aload_n 1, 1) := dk_43 (dk_at dksX7_init_0 16 rfl rfl)
theorem dX7_init_17 : decode cX7_init 17 = .ok (.putfield 18, 3) := dk_181 0 18 (dk_at dksX7_init_0 17 rfl rfl)
theorem dX7_init_20 : decode cX7_init 20 = .ok (.aload_n 0, 1) := dk_42 (dk_at dksX7_init_0 20 rfl rfl)
theorem dX7_init_21 : decode cX7_init 21 = .ok (.iload_n 2, 1) := dk_28 (dk_at dksX7_init_0 21 rfl rfl)
theorem dX7_init_22 : decode cX7_init 22 = .ok (.putfield 22, 3) := dk_181 0 22 (dk_at dksX7_init_1 0 rfl rfl)
theorem dX7_init_25 : decode cX7_init 25 = .ok (.return_, 1) := dk_177 (dk_at dksX7_init_1 3 rfl rfl)
abbrev cX7_parse : ByteArray := prog_6_method_10_code
def yX7_parse : MethodName := ⟨RX7, "parse", "()LInnRoad$Road;"⟩
def dkwX7_parse_3 : List UInt8 := [28, 153, 0, 8, 42, 43, 182, 0, 157, 43, 176]
abbrev dktX7_parse_3 : List UInt8 := dkwX7_parse_3 ++ []
def dkwX7_parse_2 : List UInt8 := [182, 0, 137, 153, 0, 16, 42, 43, 182, 0, 150, 42, 182, 0, 144, 61, 167, 255, 233, 43, 182, 0, 154, 62]
abbrev dktX7_parse_2 : List UInt8 := dkwX7_parse_2 ++ dktX7_parse_3
def dkwX7_parse_1 : List UInt8 := [4, 17, 3, 231, 182, 0, 105, 181, 0, 141, 42, 182, 0, 144, 61, 28, 153, 0, 25, 42, 18, 148]
abbrev dktX7_parse_1 : List UInt8 := dkwX7_parse_1 ++ dktX7_parse_2
def dkwX7_parse_0 : List UInt8 := [187, 0, 132, 89, 183, 0, 134, 76, 42, 182, 0, 94, 42, 42, 18, 135, 182, 0, 137, 182, 0, 101, 43, 42]
abbrev dktX7_parse_0 : List UInt8 := dkwX7_parse_0 ++ dktX7_parse_1
theorem dksX7_parse_0 : cX7_parse.data.toList.drop 0 = dktX7_parse_0 := by decide +kernel
theorem dksX7_parse_1 : cX7_parse.data.toList.drop 24 = dktX7_parse_1 := dk_seg dksX7_parse_0 24 rfl rfl
theorem dksX7_parse_2 : cX7_parse.data.toList.drop 46 = dktX7_parse_2 := dk_seg dksX7_parse_1 22 rfl rfl
theorem dksX7_parse_3 : cX7_parse.data.toList.drop 70 = dktX7_parse_3 := dk_seg dksX7_parse_2 24 rfl rfl
theorem dX7_parse_0 : decode cX7_parse 0 = .ok (.new 132, 3) := dk_187 0 132 (dk_at dksX7_parse_0 0 rfl rfl)
theorem dX7_parse_3 : decode cX7_parse 3 = .ok (.dup, 1) := dk_89 (dk_at dksX7_parse_0 3 rfl rfl)
theorem dX7_parse_4 : decode cX7_parse 4 = .ok (.invokespecial 134, 3) := dk_183 0 134 (dk_at dksX7_parse_0 4 rfl rfl)
theorem dX7_parse_7 : decode cX7_parse 7 = .ok (.astore_n 1, 1) := dk_76 (dk_at dksX7_parse_0 7 rfl rfl)
theorem dX7_parse_8 : decode cX7_parse 8 = .ok (.aload_n 0, 1) := dk_42 (dk_at dksX7_parse_0 8 rfl rfl)
theorem dX7_parse_9 : decode cX7_parse 9 = .ok (.invokevirtual 94, 3) := dk_182 0 94 (dk_at dksX7_parse_0 9 rfl rfl)
theorem dX7_parse_12 : decode cX7_parse 12 = .ok (.aload_n 0, 1) := dk_42 (dk_at dksX7_parse_0 12 rfl rfl)
theorem dX7_parse_13 : decode cX7_parse 13 = .ok (.aload_n 0, 1) := dk_42 (dk_at dksX7_parse_0 13 rfl rfl)
theorem dX7_parse_14 : decode cX7_parse 14 = .ok (.ldc 135, 2) := dk_18 135 (dk_at dksX7_parse_0 14 rfl rfl)
theorem dX7_parse_16 : decode cX7_parse 16 = .ok (.invokevirtual 137, 3) := dk_182 0 137 (dk_at dksX7_parse_0 16 rfl rfl)
theorem dX7_parse_19 : decode cX7_parse 19 = .ok (.invokevirtual 101, 3) := dk_182 0 101 (dk_at dksX7_parse_0 19 rfl rfl)
theorem dX7_parse_22 : decode cX7_parse 22 = .ok (.aload_n 1, 1) := dk_43 (dk_at dksX7_parse_0 22 rfl rfl)
theorem dX7_parse_23 : decode cX7_parse 23 = .ok (.aload_n 0, 1) := dk_42 (dk_at dksX7_parse_0 23 rfl rfl)
theorem dX7_parse_24 : decode cX7_parse 24 = .ok (.iconst 1, 1) := dk_4 (dk_at dksX7_parse_1 0 rfl rfl)
theorem dX7_parse_25 : decode cX7_parse 25 = .ok (.sipush 999, 3) := dk_17 3 231 (dk_at dksX7_parse_1 1 rfl rfl)
theorem dX7_parse_28 : decode cX7_parse 28 = .ok (.invokevirtual 105, 3) := dk_182 0 105 (dk_at dksX7_parse_1 4 rfl rfl)
theorem dX7_parse_31 : decode cX7_parse 31 = .ok (.putfield 141, 3) := dk_181 0 141 (dk_at dksX7_parse_1 7 rfl rfl)
theorem dX7_parse_34 : decode cX7_parse 34 = .ok (.aload_n 0, 1) := dk_42 (dk_at dksX7_parse_1 10 rfl rfl)
theorem dX7_parse_35 : decode cX7_parse 35 = .ok (.invokevirtual 144, 3) := dk_182 0 144 (dk_at dksX7_parse_1 11 rfl rfl)
theorem dX7_parse_38 : decode cX7_parse 38 = .ok (.istore_n 2, 1) := dk_61 (dk_at dksX7_parse_1 14 rfl rfl)
theorem dX7_parse_39 : decode cX7_parse 39 = .ok (.iload_n 2, 1) := dk_28 (dk_at dksX7_parse_1 15 rfl rfl)
theorem dX7_parse_40 : decode cX7_parse 40 = .ok (.ifCond .eq 25, 3) := dk_153 0 25 (dk_at dksX7_parse_1 16 rfl rfl)
theorem dX7_parse_43 : decode cX7_parse 43 = .ok (.aload_n 0, 1) := dk_42 (dk_at dksX7_parse_1 19 rfl rfl)
theorem dX7_parse_44 : decode cX7_parse 44 = .ok (.ldc 148, 2) := dk_18 148 (dk_at dksX7_parse_1 20 rfl rfl)
theorem dX7_parse_46 : decode cX7_parse 46 = .ok (.invokevirtual 137, 3) := dk_182 0 137 (dk_at dksX7_parse_2 0 rfl rfl)
theorem dX7_parse_49 : decode cX7_parse 49 = .ok (.ifCond .eq 16, 3) := dk_153 0 16 (dk_at dksX7_parse_2 3 rfl rfl)
theorem dX7_parse_52 : decode cX7_parse 52 = .ok (.aload_n 0, 1) := dk_42 (dk_at dksX7_parse_2 6 rfl rfl)
theorem dX7_parse_53 : decode cX7_parse 53 = .ok (.aload_n 1, 1) := dk_43 (dk_at dksX7_parse_2 7 rfl rfl)
theorem dX7_parse_54 : decode cX7_parse 54 = .ok (.invokevirtual 150, 3) := dk_182 0 150 (dk_at dksX7_parse_2 8 rfl rfl)
theorem dX7_parse_57 : decode cX7_parse 57 = .ok (.aload_n 0, 1) := dk_42 (dk_at dksX7_parse_2 11 rfl rfl)
theorem dX7_parse_58 : decode cX7_parse 58 = .ok (.invokevirtual 144, 3) := dk_182 0 144 (dk_at dksX7_parse_2 12 rfl rfl)
theorem dX7_parse_61 : decode cX7_parse 61 = .ok (.istore_n 2, 1) := dk_61 (dk_at dksX7_parse_2 15 rfl rfl)
theorem dX7_parse_62 : decode cX7_parse 62 = .ok (.goto (-23), 3) := dk_167 255 233 (dk_at dksX7_parse_2 16 rfl rfl)
theorem dX7_parse_65 : decode cX7_parse 65 = .ok (.aload_n 1, 1) := dk_43 (dk_at dksX7_parse_2 19 rfl rfl)
theorem dX7_parse_66 : decode cX7_parse 66 = .ok (.invokevirtual 154, 3) := dk_182 0 154 (dk_at dksX7_parse_2 20 rfl rfl)
theorem dX7_parse_69 : decode cX7_parse 69 = .ok (.istore_n 3, 1) := dk_62 (dk_at dksX7_parse_2 23 rfl rfl)
theorem dX7_parse_70 : decode cX7_parse 70 = .ok (.iload_n 2, 1) := dk_28 (dk_at dksX7_parse_3 0 rfl rfl)
theorem dX7_parse_71 : decode cX7_parse 71 = .ok (.ifCond .eq 8, 3) := dk_153 0 8 (dk_at dksX7_parse_3 1 rfl rfl)
theorem dX7_parse_74 : decode cX7_parse 74 = .ok (.aload_n 0, 1) := dk_42 (dk_at dksX7_parse_3 4 rfl rfl)
theorem dX7_parse_75 : decode cX7_parse 75 = .ok (.aload_n 1, 1) := dk_43 (dk_at dksX7_parse_3 5 rfl rfl)
theorem dX7_parse_76 : decode cX7_parse 76 = .ok (.invokevirtual 157, 3) := dk_182 0 157 (dk_at dksX7_parse_3 6 rfl rfl)
theorem dX7_parse_79 : decode cX7_parse 79 = .ok (.aload_n 1, 1) := dk_43 (dk_at dksX7_parse_3 9 rfl rfl)
theorem dX7_parse_80 : decode cX7_parse 80 = .ok (.areturn, 1) := dk_176 (dk_at dksX7_parse_3 10 rfl rfl)
abbrev cX7_advance : ByteArray := prog_6_method_3_code
def yX7_advance : MethodName := ⟨RX7, "advance", "()V"⟩
def dkwX7_advance_9 : List UInt8 := [181, 0, 26, 177]
abbrev dktX7_advance_9 : List UInt8 := dkwX7_advance_9 ++ []
def dkwX7_advance_8 : List UInt8 := [153, 0, 9, 178, 0, 74, 167, 0, 6, 178, 0, 77, 181, 0, 48, 42, 89, 180, 0, 26, 4, 96]
abbrev dktX7_advance_8 : List UInt8 := dkwX7_advance_8 ++ dktX7_advance_9
def dkwX7_advance_7 : List UInt8 := [16, 59, 182, 0, 29, 153, 0, 9, 178, 0, 71, 167, 0, 23, 42, 16, 45, 16, 45, 182, 0, 29]
abbrev dktX7_advance_7 : List UInt8 := dkwX7_advance_7 ++ dktX7_advance_8
def dkwX7_advance_6 : List UInt8 := [182, 0, 29, 153, 0, 17, 42, 178, 0, 65, 181, 0, 48, 42, 182, 0, 68, 167, 0, 54, 42, 42, 16, 59]
abbrev dktX7_advance_6 : List UInt8 := dkwX7_advance_6 ++ dktX7_advance_7
def dkwX7_advance_5 : List UInt8 := [96, 181, 0, 26, 167, 255, 220, 42, 43, 182, 0, 61, 181, 0, 38, 167, 0, 79, 42, 16, 48, 16, 57]
abbrev dktX7_advance_5 : List UInt8 := dkwX7_advance_5 ++ dktX7_advance_6
def dkwX7_advance_4 : List UInt8 := [153, 0, 31, 43, 42, 180, 0, 18, 42, 180, 0, 26, 51, 146, 182, 0, 57, 87, 42, 89, 180, 0, 26, 4]
abbrev dktX7_advance_4 : List UInt8 := dkwX7_advance_4 ++ dktX7_advance_5
def dkwX7_advance_3 : List UInt8 := [42, 178, 0, 51, 181, 0, 48, 187, 0, 54, 89, 183, 0, 56, 76, 42, 16, 97, 16, 122, 182, 0, 29]
abbrev dktX7_advance_3 : List UInt8 := dkwX7_advance_3 ++ dktX7_advance_4
def dkwX7_advance_2 : List UInt8 := [160, 0, 13, 42, 178, 0, 42, 181, 0, 48, 167, 0, 155, 42, 16, 97, 16, 122, 182, 0, 29, 153, 0, 68]
abbrev dktX7_advance_2 : List UInt8 := dkwX7_advance_2 ++ dktX7_advance_3
def dkwX7_advance_1 : List UInt8 := [42, 42, 180, 0, 26, 181, 0, 33, 42, 18, 36, 181, 0, 38, 42, 180, 0, 26, 42, 180, 0, 22]
abbrev dktX7_advance_1 : List UInt8 := dkwX7_advance_1 ++ dktX7_advance_2
def dkwX7_advance_0 : List UInt8 := [42, 16, 32, 16, 32, 182, 0, 29, 153, 0, 16, 42, 89, 180, 0, 26, 4, 96, 181, 0, 26, 167, 255, 235]
abbrev dktX7_advance_0 : List UInt8 := dkwX7_advance_0 ++ dktX7_advance_1
theorem dksX7_advance_0 : cX7_advance.data.toList.drop 0 = dktX7_advance_0 := by decide +kernel
theorem dksX7_advance_1 : cX7_advance.data.toList.drop 24 = dktX7_advance_1 := dk_seg dksX7_advance_0 24 rfl rfl
theorem dksX7_advance_2 : cX7_advance.data.toList.drop 46 = dktX7_advance_2 := dk_seg dksX7_advance_1 22 rfl rfl
theorem dksX7_advance_3 : cX7_advance.data.toList.drop 70 = dktX7_advance_3 := dk_seg dksX7_advance_2 24 rfl rfl
theorem dksX7_advance_4 : cX7_advance.data.toList.drop 93 = dktX7_advance_4 := dk_seg dksX7_advance_3 23 rfl rfl
theorem dksX7_advance_5 : cX7_advance.data.toList.drop 117 = dktX7_advance_5 := dk_seg dksX7_advance_4 24 rfl rfl
theorem dksX7_advance_6 : cX7_advance.data.toList.drop 140 = dktX7_advance_6 := dk_seg dksX7_advance_5 23 rfl rfl
theorem dksX7_advance_7 : cX7_advance.data.toList.drop 164 = dktX7_advance_7 := dk_seg dksX7_advance_6 24 rfl rfl
theorem dksX7_advance_8 : cX7_advance.data.toList.drop 186 = dktX7_advance_8 := dk_seg dksX7_advance_7 22 rfl rfl
theorem dksX7_advance_9 : cX7_advance.data.toList.drop 208 = dktX7_advance_9 := dk_seg dksX7_advance_8 22 rfl rfl
theorem dX7_advance_0 : decode cX7_advance 0 = .ok (.aload_n 0, 1) := dk_42 (dk_at dksX7_advance_0 0 rfl rfl)
theorem dX7_advance_1 : decode cX7_advance 1 = .ok (.bipush 32, 2) := dk_16 32 (dk_at dksX7_advance_0 1 rfl rfl)
theorem dX7_advance_3 : decode cX7_advance 3 = .ok (.bipush 32, 2) := dk_16 32 (dk_at dksX7_advance_0 3 rfl rfl)
theorem dX7_advance_5 : decode cX7_advance 5 = .ok (.invokevirtual 29, 3) := dk_182 0 29 (dk_at dksX7_advance_0 5 rfl rfl)
theorem dX7_advance_8 : decode cX7_advance 8 = .ok (.ifCond .eq 16, 3) := dk_153 0 16 (dk_at dksX7_advance_0 8 rfl rfl)
theorem dX7_advance_11 : decode cX7_advance 11 = .ok (.aload_n 0, 1) := dk_42 (dk_at dksX7_advance_0 11 rfl rfl)
theorem dX7_advance_12 : decode cX7_advance 12 = .ok (.dup, 1) := dk_89 (dk_at dksX7_advance_0 12 rfl rfl)
theorem dX7_advance_13 : decode cX7_advance 13 = .ok (.getfield 26, 3) := dk_180 0 26 (dk_at dksX7_advance_0 13 rfl rfl)
theorem dX7_advance_16 : decode cX7_advance 16 = .ok (.iconst 1, 1) := dk_4 (dk_at dksX7_advance_0 16 rfl rfl)
theorem dX7_advance_17 : decode cX7_advance 17 = .ok (.iadd, 1) := dk_96 (dk_at dksX7_advance_0 17 rfl rfl)
theorem dX7_advance_18 : decode cX7_advance 18 = .ok (.putfield 26, 3) := dk_181 0 26 (dk_at dksX7_advance_0 18 rfl rfl)
theorem dX7_advance_21 : decode cX7_advance 21 = .ok (.goto (-21), 3) := dk_167 255 235 (dk_at dksX7_advance_0 21 rfl rfl)
theorem dX7_advance_24 : decode cX7_advance 24 = .ok (.aload_n 0, 1) := dk_42 (dk_at dksX7_advance_1 0 rfl rfl)
theorem dX7_advance_25 : decode cX7_advance 25 = .ok (.aload_n 0, 1) := dk_42 (dk_at dksX7_advance_1 1 rfl rfl)
theorem dX7_advance_26 : decode cX7_advance 26 = .ok (.getfield 26, 3) := dk_180 0 26 (dk_at dksX7_advance_1 2 rfl rfl)
theorem dX7_advance_29 : decode cX7_advance 29 = .ok (.putfield 33, 3) := dk_181 0 33 (dk_at dksX7_advance_1 5 rfl rfl)
theorem dX7_advance_32 : decode cX7_advance 32 = .ok (.aload_n 0, 1) := dk_42 (dk_at dksX7_advance_1 8 rfl rfl)
theorem dX7_advance_33 : decode cX7_advance 33 = .ok (.ldc 36, 2) := dk_18 36 (dk_at dksX7_advance_1 9 rfl rfl)
theorem dX7_advance_35 : decode cX7_advance 35 = .ok (.putfield 38, 3) := dk_181 0 38 (dk_at dksX7_advance_1 11 rfl rfl)
theorem dX7_advance_38 : decode cX7_advance 38 = .ok (.aload_n 0, 1) := dk_42 (dk_at dksX7_advance_1 14 rfl rfl)
theorem dX7_advance_39 : decode cX7_advance 39 = .ok (.getfield 26, 3) := dk_180 0 26 (dk_at dksX7_advance_1 15 rfl rfl)
theorem dX7_advance_42 : decode cX7_advance 42 = .ok (.aload_n 0, 1) := dk_42 (dk_at dksX7_advance_1 18 rfl rfl)
theorem dX7_advance_43 : decode cX7_advance 43 = .ok (.getfield 22, 3) := dk_180 0 22 (dk_at dksX7_advance_1 19 rfl rfl)
theorem dX7_advance_46 : decode cX7_advance 46 = .ok (.if_icmp .ne 13, 3) := dk_160 0 13 (dk_at dksX7_advance_2 0 rfl rfl)
theorem dX7_advance_49 : decode cX7_advance 49 = .ok (.aload_n 0, 1) := dk_42 (dk_at dksX7_advance_2 3 rfl rfl)
theorem dX7_advance_50 : decode cX7_advance 50 = .ok (.getstatic 42, 3) := dk_178 0 42 (dk_at dksX7_advance_2 4 rfl rfl)
theorem dX7_advance_53 : decode cX7_advance 53 = .ok (.putfield 48, 3) := dk_181 0 48 (dk_at dksX7_advance_2 7 rfl rfl)
theorem dX7_advance_56 : decode cX7_advance 56 = .ok (.goto 155, 3) := dk_167 0 155 (dk_at dksX7_advance_2 10 rfl rfl)
theorem dX7_advance_59 : decode cX7_advance 59 = .ok (.aload_n 0, 1) := dk_42 (dk_at dksX7_advance_2 13 rfl rfl)
theorem dX7_advance_60 : decode cX7_advance 60 = .ok (.bipush 97, 2) := dk_16 97 (dk_at dksX7_advance_2 14 rfl rfl)
theorem dX7_advance_62 : decode cX7_advance 62 = .ok (.bipush 122, 2) := dk_16 122 (dk_at dksX7_advance_2 16 rfl rfl)
theorem dX7_advance_64 : decode cX7_advance 64 = .ok (.invokevirtual 29, 3) := dk_182 0 29 (dk_at dksX7_advance_2 18 rfl rfl)
theorem dX7_advance_67 : decode cX7_advance 67 = .ok (.ifCond .eq 68, 3) := dk_153 0 68 (dk_at dksX7_advance_2 21 rfl rfl)
theorem dX7_advance_70 : decode cX7_advance 70 = .ok (.aload_n 0, 1) := dk_42 (dk_at dksX7_advance_3 0 rfl rfl)
theorem dX7_advance_71 : decode cX7_advance 71 = .ok (.getstatic 51, 3) := dk_178 0 51 (dk_at dksX7_advance_3 1 rfl rfl)
theorem dX7_advance_74 : decode cX7_advance 74 = .ok (.putfield 48, 3) := dk_181 0 48 (dk_at dksX7_advance_3 4 rfl rfl)
theorem dX7_advance_77 : decode cX7_advance 77 = .ok (.new 54, 3) := dk_187 0 54 (dk_at dksX7_advance_3 7 rfl rfl)
theorem dX7_advance_80 : decode cX7_advance 80 = .ok (.dup, 1) := dk_89 (dk_at dksX7_advance_3 10 rfl rfl)
theorem dX7_advance_81 : decode cX7_advance 81 = .ok (.invokespecial 56, 3) := dk_183 0 56 (dk_at dksX7_advance_3 11 rfl rfl)
theorem dX7_advance_84 : decode cX7_advance 84 = .ok (.astore_n 1, 1) := dk_76 (dk_at dksX7_advance_3 14 rfl rfl)
theorem dX7_advance_85 : decode cX7_advance 85 = .ok (.aload_n 0, 1) := dk_42 (dk_at dksX7_advance_3 15 rfl rfl)
theorem dX7_advance_86 : decode cX7_advance 86 = .ok (.bipush 97, 2) := dk_16 97 (dk_at dksX7_advance_3 16 rfl rfl)
theorem dX7_advance_88 : decode cX7_advance 88 = .ok (.bipush 122, 2) := dk_16 122 (dk_at dksX7_advance_3 18 rfl rfl)
theorem dX7_advance_90 : decode cX7_advance 90 = .ok (.invokevirtual 29, 3) := dk_182 0 29 (dk_at dksX7_advance_3 20 rfl rfl)
theorem dX7_advance_93 : decode cX7_advance 93 = .ok (.ifCond .eq 31, 3) := dk_153 0 31 (dk_at dksX7_advance_4 0 rfl rfl)
theorem dX7_advance_96 : decode cX7_advance 96 = .ok (.aload_n 1, 1) := dk_43 (dk_at dksX7_advance_4 3 rfl rfl)
theorem dX7_advance_97 : decode cX7_advance 97 = .ok (.aload_n 0, 1) := dk_42 (dk_at dksX7_advance_4 4 rfl rfl)
theorem dX7_advance_98 : decode cX7_advance 98 = .ok (.getfield 18, 3) := dk_180 0 18 (dk_at dksX7_advance_4 5 rfl rfl)
theorem dX7_advance_101 : decode cX7_advance 101 = .ok (.aload_n 0, 1) := dk_42 (dk_at dksX7_advance_4 8 rfl rfl)
theorem dX7_advance_102 : decode cX7_advance 102 = .ok (.getfield 26, 3) := dk_180 0 26 (dk_at dksX7_advance_4 9 rfl rfl)
theorem dX7_advance_105 : decode cX7_advance 105 = .ok (.baload, 1) := dk_51 (dk_at dksX7_advance_4 12 rfl rfl)
theorem dX7_advance_106 : decode cX7_advance 106 = .ok (.i2c, 1) := dk_146 (dk_at dksX7_advance_4 13 rfl rfl)
theorem dX7_advance_107 : decode cX7_advance 107 = .ok (.invokevirtual 57, 3) := dk_182 0 57 (dk_at dksX7_advance_4 14 rfl rfl)
theorem dX7_advance_110 : decode cX7_advance 110 = .ok (.pop, 1) := dk_87 (dk_at dksX7_advance_4 17 rfl rfl)
theorem dX7_advance_111 : decode cX7_advance 111 = .ok (.aload_n 0, 1) := dk_42 (dk_at dksX7_advance_4 18 rfl rfl)
theorem dX7_advance_112 : decode cX7_advance 112 = .ok (.dup, 1) := dk_89 (dk_at dksX7_advance_4 19 rfl rfl)
theorem dX7_advance_113 : decode cX7_advance 113 = .ok (.getfield 26, 3) := dk_180 0 26 (dk_at dksX7_advance_4 20 rfl rfl)
theorem dX7_advance_116 : decode cX7_advance 116 = .ok (.iconst 1, 1) := dk_4 (dk_at dksX7_advance_4 23 rfl rfl)
theorem dX7_advance_117 : decode cX7_advance 117 = .ok (.iadd, 1) := dk_96 (dk_at dksX7_advance_5 0 rfl rfl)
theorem dX7_advance_118 : decode cX7_advance 118 = .ok (.putfield 26, 3) := dk_181 0 26 (dk_at dksX7_advance_5 1 rfl rfl)
theorem dX7_advance_121 : decode cX7_advance 121 = .ok (.goto (-36), 3) := dk_167 255 220 (dk_at dksX7_advance_5 4 rfl rfl)
theorem dX7_advance_124 : decode cX7_advance 124 = .ok (.aload_n 0, 1) := dk_42 (dk_at dksX7_advance_5 7 rfl rfl)
theorem dX7_advance_125 : decode cX7_advance 125 = .ok (.aload_n 1, 1) := dk_43 (dk_at dksX7_advance_5 8 rfl rfl)
theorem dX7_advance_126 : decode cX7_advance 126 = .ok (.invokevirtual 61, 3) := dk_182 0 61 (dk_at dksX7_advance_5 9 rfl rfl)
theorem dX7_advance_129 : decode cX7_advance 129 = .ok (.putfield 38, 3) := dk_181 0 38 (dk_at dksX7_advance_5 12 rfl rfl)
theorem dX7_advance_132 : decode cX7_advance 132 = .ok (.goto 79, 3) := dk_167 0 79 (dk_at dksX7_advance_5 15 rfl rfl)
theorem dX7_advance_135 : decode cX7_advance 135 = .ok (.aload_n 0, 1) := dk_42 (dk_at dksX7_advance_5 18 rfl rfl)
theorem dX7_advance_136 : decode cX7_advance 136 = .ok (.bipush 48, 2) := dk_16 48 (dk_at dksX7_advance_5 19 rfl rfl)
theorem dX7_advance_138 : decode cX7_advance 138 = .ok (.bipush 57, 2) := dk_16 57 (dk_at dksX7_advance_5 21 rfl rfl)
theorem dX7_advance_140 : decode cX7_advance 140 = .ok (.invokevirtual 29, 3) := dk_182 0 29 (dk_at dksX7_advance_6 0 rfl rfl)
theorem dX7_advance_143 : decode cX7_advance 143 = .ok (.ifCond .eq 17, 3) := dk_153 0 17 (dk_at dksX7_advance_6 3 rfl rfl)
theorem dX7_advance_146 : decode cX7_advance 146 = .ok (.aload_n 0, 1) := dk_42 (dk_at dksX7_advance_6 6 rfl rfl)
theorem dX7_advance_147 : decode cX7_advance 147 = .ok (.getstatic 65, 3) := dk_178 0 65 (dk_at dksX7_advance_6 7 rfl rfl)
theorem dX7_advance_150 : decode cX7_advance 150 = .ok (.putfield 48, 3) := dk_181 0 48 (dk_at dksX7_advance_6 10 rfl rfl)
theorem dX7_advance_153 : decode cX7_advance 153 = .ok (.aload_n 0, 1) := dk_42 (dk_at dksX7_advance_6 13 rfl rfl)
theorem dX7_advance_154 : decode cX7_advance 154 = .ok (.invokevirtual 68, 3) := dk_182 0 68 (dk_at dksX7_advance_6 14 rfl rfl)
theorem dX7_advance_157 : decode cX7_advance 157 = .ok (.goto 54, 3) := dk_167 0 54 (dk_at dksX7_advance_6 17 rfl rfl)
theorem dX7_advance_160 : decode cX7_advance 160 = .ok (.aload_n 0, 1) := dk_42 (dk_at dksX7_advance_6 20 rfl rfl)
theorem dX7_advance_161 : decode cX7_advance 161 = .ok (.aload_n 0, 1) := dk_42 (dk_at dksX7_advance_6 21 rfl rfl)
theorem dX7_advance_162 : decode cX7_advance 162 = .ok (.bipush 59, 2) := dk_16 59 (dk_at dksX7_advance_6 22 rfl rfl)
theorem dX7_advance_164 : decode cX7_advance 164 = .ok (.bipush 59, 2) := dk_16 59 (dk_at dksX7_advance_7 0 rfl rfl)
theorem dX7_advance_166 : decode cX7_advance 166 = .ok (.invokevirtual 29, 3) := dk_182 0 29 (dk_at dksX7_advance_7 2 rfl rfl)
theorem dX7_advance_169 : decode cX7_advance 169 = .ok (.ifCond .eq 9, 3) := dk_153 0 9 (dk_at dksX7_advance_7 5 rfl rfl)
theorem dX7_advance_172 : decode cX7_advance 172 = .ok (.getstatic 71, 3) := dk_178 0 71 (dk_at dksX7_advance_7 8 rfl rfl)
theorem dX7_advance_175 : decode cX7_advance 175 = .ok (.goto 23, 3) := dk_167 0 23 (dk_at dksX7_advance_7 11 rfl rfl)
theorem dX7_advance_178 : decode cX7_advance 178 = .ok (.aload_n 0, 1) := dk_42 (dk_at dksX7_advance_7 14 rfl rfl)
theorem dX7_advance_179 : decode cX7_advance 179 = .ok (.bipush 45, 2) := dk_16 45 (dk_at dksX7_advance_7 15 rfl rfl)
theorem dX7_advance_181 : decode cX7_advance 181 = .ok (.bipush 45, 2) := dk_16 45 (dk_at dksX7_advance_7 17 rfl rfl)
theorem dX7_advance_183 : decode cX7_advance 183 = .ok (.invokevirtual 29, 3) := dk_182 0 29 (dk_at dksX7_advance_7 19 rfl rfl)
theorem dX7_advance_186 : decode cX7_advance 186 = .ok (.ifCond .eq 9, 3) := dk_153 0 9 (dk_at dksX7_advance_8 0 rfl rfl)
theorem dX7_advance_189 : decode cX7_advance 189 = .ok (.getstatic 74, 3) := dk_178 0 74 (dk_at dksX7_advance_8 3 rfl rfl)
theorem dX7_advance_192 : decode cX7_advance 192 = .ok (.goto 6, 3) := dk_167 0 6 (dk_at dksX7_advance_8 6 rfl rfl)
theorem dX7_advance_195 : decode cX7_advance 195 = .ok (.getstatic 77, 3) := dk_178 0 77 (dk_at dksX7_advance_8 9 rfl rfl)
theorem dX7_advance_198 : decode cX7_advance 198 = .ok (.putfield 48, 3) := dk_181 0 48 (dk_at dksX7_advance_8 12 rfl rfl)
theorem dX7_advance_201 : decode cX7_advance 201 = .ok (.aload_n 0, 1) := dk_42 (dk_at dksX7_advance_8 15 rfl rfl)
theorem dX7_advance_202 : decode cX7_advance 202 = .ok (.dup, 1) := dk_89 (dk_at dksX7_advance_8 16 rfl rfl)
theorem dX7_advance_203 : decode cX7_advance 203 = .ok (.getfield 26, 3) := dk_180 0 26 (dk_at dksX7_advance_8 17 rfl rfl)
theorem dX7_advance_206 : decode cX7_advance 206 = .ok (.iconst 1, 1) := dk_4 (dk_at dksX7_advance_8 20 rfl rfl)
theorem dX7_advance_207 : decode cX7_advance 207 = .ok (.iadd, 1) := dk_96 (dk_at dksX7_advance_8 21 rfl rfl)
theorem dX7_advance_208 : decode cX7_advance 208 = .ok (.putfield 26, 3) := dk_181 0 26 (dk_at dksX7_advance_9 0 rfl rfl)
theorem dX7_advance_211 : decode cX7_advance 211 = .ok (.return_, 1) := dk_177 (dk_at dksX7_advance_9 3 rfl rfl)
abbrev cX7_isByteBetween : ByteArray := prog_6_method_2_code
def yX7_isByteBetween : MethodName := ⟨RX7, "isByteBetween", "(CC)Z"⟩
def dkwX7_isByteBetween_1 : List UInt8 := [42, 180, 0, 18, 42, 180, 0, 26, 51, 28, 163, 0, 7, 4, 167, 0, 4, 3, 172]
abbrev dktX7_isByteBetween_1 : List UInt8 := dkwX7_isByteBetween_1 ++ []
def dkwX7_isByteBetween_0 : List UInt8 := [42, 180, 0, 26, 42, 180, 0, 22, 162, 0, 33, 42, 180, 0, 18, 42, 180, 0, 26, 51, 27, 161, 0, 20]
abbrev dktX7_isByteBetween_0 : List UInt8 := dkwX7_isByteBetween_0 ++ dktX7_isByteBetween_1
theorem dksX7_isByteBetween_0 : cX7_isByteBetween.data.toList.drop 0 = dktX7_isByteBetween_0 := by decide +kernel
theorem dksX7_isByteBetween_1 : cX7_isByteBetween.data.toList.drop 24 = dktX7_isByteBetween_1 := dk_seg dksX7_isByteBetween_0 24 rfl rfl
theorem dX7_isByteBetween_0 : decode cX7_isByteBetween 0 = .ok (.aload_n 0, 1) := dk_42 (dk_at dksX7_isByteBetween_0 0 rfl rfl)
theorem dX7_isByteBetween_1 : decode cX7_isByteBetween 1 = .ok (.getfield 26, 3) := dk_180 0 26 (dk_at dksX7_isByteBetween_0 1 rfl rfl)
theorem dX7_isByteBetween_4 : decode cX7_isByteBetween 4 = .ok (.aload_n 0, 1) := dk_42 (dk_at dksX7_isByteBetween_0 4 rfl rfl)
theorem dX7_isByteBetween_5 : decode cX7_isByteBetween 5 = .ok (.getfield 22, 3) := dk_180 0 22 (dk_at dksX7_isByteBetween_0 5 rfl rfl)
theorem dX7_isByteBetween_8 : decode cX7_isByteBetween 8 = .ok (.if_icmp .ge 33, 3) := dk_162 0 33 (dk_at dksX7_isByteBetween_0 8 rfl rfl)
theorem dX7_isByteBetween_11 : decode cX7_isByteBetween 11 = .ok (.aload_n 0, 1) := dk_42 (dk_at dksX7_isByteBetween_0 11 rfl rfl)
theorem dX7_isByteBetween_12 : decode cX7_isByteBetween 12 = .ok (.getfield 18, 3) := dk_180 0 18 (dk_at dksX7_isByteBetween_0 12 rfl rfl)
theorem dX7_isByteBetween_15 : decode cX7_isByteBetween 15 = .ok (.aload_n 0, 1) := dk_42 (dk_at dksX7_isByteBetween_0 15 rfl rfl)
theorem dX7_isByteBetween_16 : decode cX7_isByteBetween 16 = .ok (.getfield 26, 3) := dk_180 0 26 (dk_at dksX7_isByteBetween_0 16 rfl rfl)
theorem dX7_isByteBetween_19 : decode cX7_isByteBetween 19 = .ok (.baload, 1) := dk_51 (dk_at dksX7_isByteBetween_0 19 rfl rfl)
theorem dX7_isByteBetween_20 : decode cX7_isByteBetween 20 = .ok (.iload_n 1, 1) := dk_27 (dk_at dksX7_isByteBetween_0 20 rfl rfl)
theorem dX7_isByteBetween_21 : decode cX7_isByteBetween 21 = .ok (.if_icmp .lt 20, 3) := dk_161 0 20 (dk_at dksX7_isByteBetween_0 21 rfl rfl)
theorem dX7_isByteBetween_24 : decode cX7_isByteBetween 24 = .ok (.aload_n 0, 1) := dk_42 (dk_at dksX7_isByteBetween_1 0 rfl rfl)
theorem dX7_isByteBetween_25 : decode cX7_isByteBetween 25 = .ok (.getfield 18, 3) := dk_180 0 18 (dk_at dksX7_isByteBetween_1 1 rfl rfl)
theorem dX7_isByteBetween_28 : decode cX7_isByteBetween 28 = .ok (.aload_n 0, 1) := dk_42 (dk_at dksX7_isByteBetween_1 4 rfl rfl)
theorem dX7_isByteBetween_29 : decode cX7_isByteBetween 29 = .ok (.getfield 26, 3) := dk_180 0 26 (dk_at dksX7_isByteBetween_1 5 rfl rfl)
theorem dX7_isByteBetween_32 : decode cX7_isByteBetween 32 = .ok (.baload, 1) := dk_51 (dk_at dksX7_isByteBetween_1 8 rfl rfl)
theorem dX7_isByteBetween_33 : decode cX7_isByteBetween 33 = .ok (.iload_n 2, 1) := dk_28 (dk_at dksX7_isByteBetween_1 9 rfl rfl)
theorem dX7_isByteBetween_34 : decode cX7_isByteBetween 34 = .ok (.if_icmp .gt 7, 3) := dk_163 0 7 (dk_at dksX7_isByteBetween_1 10 rfl rfl)
theorem dX7_isByteBetween_37 : decode cX7_isByteBetween 37 = .ok (.iconst 1, 1) := dk_4 (dk_at dksX7_isByteBetween_1 13 rfl rfl)
theorem dX7_isByteBetween_38 : decode cX7_isByteBetween 38 = .ok (.goto 4, 3) := dk_167 0 4 (dk_at dksX7_isByteBetween_1 14 rfl rfl)
theorem dX7_isByteBetween_41 : decode cX7_isByteBetween 41 = .ok (.iconst 0, 1) := dk_3 (dk_at dksX7_isByteBetween_1 17 rfl rfl)
theorem dX7_isByteBetween_42 : decode cX7_isByteBetween 42 = .ok (.ireturn, 1) := dk_172 (dk_at dksX7_isByteBetween_1 18 rfl rfl)
abbrev cX7_readNumber : ByteArray := prog_6_method_4_code
def yX7_readNumber : MethodName := ⟨RX7, "readNumber", "()V"⟩
def dkwX7_readNumber_3 : List UInt8 := [4, 96, 181, 0, 26, 167, 255, 184, 177]
abbrev dktX7_readNumber_3 : List UInt8 := dkwX7_readNumber_3 ++ []
def dkwX7_readNumber_2 : List UInt8 := [180, 0, 18, 42, 180, 0, 26, 51, 96, 16, 48, 100, 167, 0, 4, 2, 181, 0, 80, 42, 89, 180, 0, 26]
abbrev dktX7_readNumber_2 : List UInt8 := dkwX7_readNumber_2 ++ dktX7_readNumber_3
def dkwX7_readNumber_1 : List UInt8 := [100, 6, 162, 0, 7, 4, 167, 0, 4, 3, 60, 42, 27, 153, 0, 26, 16, 10, 42, 180, 0, 80, 104, 42]
abbrev dktX7_readNumber_1 : List UInt8 := dkwX7_readNumber_1 ++ dktX7_readNumber_2
def dkwX7_readNumber_0 : List UInt8 := [42, 3, 181, 0, 80, 42, 16, 48, 16, 57, 182, 0, 29, 153, 0, 67, 42, 180, 0, 26, 42, 180, 0, 33]
abbrev dktX7_readNumber_0 : List UInt8 := dkwX7_readNumber_0 ++ dktX7_readNumber_1
theorem dksX7_readNumber_0 : cX7_readNumber.data.toList.drop 0 = dktX7_readNumber_0 := by decide +kernel
theorem dksX7_readNumber_1 : cX7_readNumber.data.toList.drop 24 = dktX7_readNumber_1 := dk_seg dksX7_readNumber_0 24 rfl rfl
theorem dksX7_readNumber_2 : cX7_readNumber.data.toList.drop 48 = dktX7_readNumber_2 := dk_seg dksX7_readNumber_1 24 rfl rfl
theorem dksX7_readNumber_3 : cX7_readNumber.data.toList.drop 72 = dktX7_readNumber_3 := dk_seg dksX7_readNumber_2 24 rfl rfl
theorem dX7_readNumber_0 : decode cX7_readNumber 0 = .ok (.aload_n 0, 1) := dk_42 (dk_at dksX7_readNumber_0 0 rfl rfl)
theorem dX7_readNumber_1 : decode cX7_readNumber 1 = .ok (.iconst 0, 1) := dk_3 (dk_at dksX7_readNumber_0 1 rfl rfl)
theorem dX7_readNumber_2 : decode cX7_readNumber 2 = .ok (.putfield 80, 3) := dk_181 0 80 (dk_at dksX7_readNumber_0 2 rfl rfl)
theorem dX7_readNumber_5 : decode cX7_readNumber 5 = .ok (.aload_n 0, 1) := dk_42 (dk_at dksX7_readNumber_0 5 rfl rfl)
theorem dX7_readNumber_6 : decode cX7_readNumber 6 = .ok (.bipush 48, 2) := dk_16 48 (dk_at dksX7_readNumber_0 6 rfl rfl)
theorem dX7_readNumber_8 : decode cX7_readNumber 8 = .ok (.bipush 57, 2) := dk_16 57 (dk_at dksX7_readNumber_0 8 rfl rfl)
theorem dX7_readNumber_10 : decode cX7_readNumber 10 = .ok (.invokevirtual 29, 3) := dk_182 0 29 (dk_at dksX7_readNumber_0 10 rfl rfl)
theorem dX7_readNumber_13 : decode cX7_readNumber 13 = .ok (.ifCond .eq 67, 3) := dk_153 0 67 (dk_at dksX7_readNumber_0 13 rfl rfl)
theorem dX7_readNumber_16 : decode cX7_readNumber 16 = .ok (.aload_n 0, 1) := dk_42 (dk_at dksX7_readNumber_0 16 rfl rfl)
theorem dX7_readNumber_17 : decode cX7_readNumber 17 = .ok (.getfield 26, 3) := dk_180 0 26 (dk_at dksX7_readNumber_0 17 rfl rfl)
theorem dX7_readNumber_20 : decode cX7_readNumber 20 = .ok (.aload_n 0, 1) := dk_42 (dk_at dksX7_readNumber_0 20 rfl rfl)
theorem dX7_readNumber_21 : decode cX7_readNumber 21 = .ok (.getfield 33, 3) := dk_180 0 33 (dk_at dksX7_readNumber_0 21 rfl rfl)
theorem dX7_readNumber_24 : decode cX7_readNumber 24 = .ok (.isub, 1) := dk_100 (dk_at dksX7_readNumber_1 0 rfl rfl)
theorem dX7_readNumber_25 : decode cX7_readNumber 25 = .ok (.iconst 3, 1) := dk_6 (dk_at dksX7_readNumber_1 1 rfl rfl)
theorem dX7_readNumber_26 : decode cX7_readNumber 26 = .ok (.if_icmp .ge 7, 3) := dk_162 0 7 (dk_at dksX7_readNumber_1 2 rfl rfl)
theorem dX7_readNumber_29 : decode cX7_readNumber 29 = .ok (.iconst 1, 1) := dk_4 (dk_at dksX7_readNumber_1 5 rfl rfl)
theorem dX7_readNumber_30 : decode cX7_readNumber 30 = .ok (.goto 4, 3) := dk_167 0 4 (dk_at dksX7_readNumber_1 6 rfl rfl)
theorem dX7_readNumber_33 : decode cX7_readNumber 33 = .ok (.iconst 0, 1) := dk_3 (dk_at dksX7_readNumber_1 9 rfl rfl)
theorem dX7_readNumber_34 : decode cX7_readNumber 34 = .ok (.istore_n 1, 1) := dk_60 (dk_at dksX7_readNumber_1 10 rfl rfl)
theorem dX7_readNumber_35 : decode cX7_readNumber 35 = .ok (.aload_n 0, 1) := dk_42 (dk_at dksX7_readNumber_1 11 rfl rfl)
theorem dX7_readNumber_36 : decode cX7_readNumber 36 = .ok (.iload_n 1, 1) := dk_27 (dk_at dksX7_readNumber_1 12 rfl rfl)
theorem dX7_readNumber_37 : decode cX7_readNumber 37 = .ok (.ifCond .eq 26, 3) := dk_153 0 26 (dk_at dksX7_readNumber_1 13 rfl rfl)
theorem dX7_readNumber_40 : decode cX7_readNumber 40 = .ok (.bipush 10, 2) := dk_16 10 (dk_at dksX7_readNumber_1 16 rfl rfl)
theorem dX7_readNumber_42 : decode cX7_readNumber 42 = .ok (.aload_n 0, 1) := dk_42 (dk_at dksX7_readNumber_1 18 rfl rfl)
theorem dX7_readNumber_43 : decode cX7_readNumber 43 = .ok (.getfield 80, 3) := dk_180 0 80 (dk_at dksX7_readNumber_1 19 rfl rfl)
theorem dX7_readNumber_46 : decode cX7_readNumber 46 = .ok (.imul, 1) := dk_104 (dk_at dksX7_readNumber_1 22 rfl rfl)
theorem dX7_readNumber_47 : decode cX7_readNumber 47 = .ok (.aload_n 0, 1) := dk_42 (dk_at dksX7_readNumber_1 23 rfl rfl)
theorem dX7_readNumber_48 : decode cX7_readNumber 48 = .ok (.getfield 18, 3) := dk_180 0 18 (dk_at dksX7_readNumber_2 0 rfl rfl)
theorem dX7_readNumber_51 : decode cX7_readNumber 51 = .ok (.aload_n 0, 1) := dk_42 (dk_at dksX7_readNumber_2 3 rfl rfl)
theorem dX7_readNumber_52 : decode cX7_readNumber 52 = .ok (.getfield 26, 3) := dk_180 0 26 (dk_at dksX7_readNumber_2 4 rfl rfl)
theorem dX7_readNumber_55 : decode cX7_readNumber 55 = .ok (.baload, 1) := dk_51 (dk_at dksX7_readNumber_2 7 rfl rfl)
theorem dX7_readNumber_56 : decode cX7_readNumber 56 = .ok (.iadd, 1) := dk_96 (dk_at dksX7_readNumber_2 8 rfl rfl)
theorem dX7_readNumber_57 : decode cX7_readNumber 57 = .ok (.bipush 48, 2) := dk_16 48 (dk_at dksX7_readNumber_2 9 rfl rfl)
theorem dX7_readNumber_59 : decode cX7_readNumber 59 = .ok (.isub, 1) := dk_100 (dk_at dksX7_readNumber_2 11 rfl rfl)
theorem dX7_readNumber_60 : decode cX7_readNumber 60 = .ok (.goto 4, 3) := dk_167 0 4 (dk_at dksX7_readNumber_2 12 rfl rfl)
theorem dX7_readNumber_63 : decode cX7_readNumber 63 = .ok (.iconst (-1), 1) := dk_2 (dk_at dksX7_readNumber_2 15 rfl rfl)
theorem dX7_readNumber_64 : decode cX7_readNumber 64 = .ok (.putfield 80, 3) := dk_181 0 80 (dk_at dksX7_readNumber_2 16 rfl rfl)
theorem dX7_readNumber_67 : decode cX7_readNumber 67 = .ok (.aload_n 0, 1) := dk_42 (dk_at dksX7_readNumber_2 19 rfl rfl)
theorem dX7_readNumber_68 : decode cX7_readNumber 68 = .ok (.dup, 1) := dk_89 (dk_at dksX7_readNumber_2 20 rfl rfl)
theorem dX7_readNumber_69 : decode cX7_readNumber 69 = .ok (.getfield 26, 3) := dk_180 0 26 (dk_at dksX7_readNumber_2 21 rfl rfl)
theorem dX7_readNumber_72 : decode cX7_readNumber 72 = .ok (.iconst 1, 1) := dk_4 (dk_at dksX7_readNumber_3 0 rfl rfl)
theorem dX7_readNumber_73 : decode cX7_readNumber 73 = .ok (.iadd, 1) := dk_96 (dk_at dksX7_readNumber_3 1 rfl rfl)
theorem dX7_readNumber_74 : decode cX7_readNumber 74 = .ok (.putfield 26, 3) := dk_181 0 26 (dk_at dksX7_readNumber_3 2 rfl rfl)
theorem dX7_readNumber_77 : decode cX7_readNumber 77 = .ok (.goto (-72), 3) := dk_167 255 184 (dk_at dksX7_readNumber_3 5 rfl rfl)
theorem dX7_readNumber_80 : decode cX7_readNumber 80 = .ok (.return_, 1) := dk_177 (dk_at dksX7_readNumber_3 8 rfl rfl)
abbrev cX7_accepts : ByteArray := prog_6_method_6_code
def yX7_accepts : MethodName := ⟨RX7, "accepts", "(Ljava/lang/String;)Z"⟩
def dkwX7_accepts_0 : List UInt8 := [42, 180, 0, 38, 43, 182, 0, 88, 61, 28, 153, 0, 7, 42, 182, 0, 94, 28, 172]
abbrev dktX7_accepts_0 : List UInt8 := dkwX7_accepts_0 ++ []
theorem dksX7_accepts_0 : cX7_accepts.data.toList.drop 0 = dktX7_accepts_0 := by decide +kernel
theorem dX7_accepts_0 : decode cX7_accepts 0 = .ok (.aload_n 0, 1) := dk_42 (dk_at dksX7_accepts_0 0 rfl rfl)
theorem dX7_accepts_1 : decode cX7_accepts 1 = .ok (.getfield 38, 3) := dk_180 0 38 (dk_at dksX7_accepts_0 1 rfl rfl)
theorem dX7_accepts_4 : decode cX7_accepts 4 = .ok (.aload_n 1, 1) := dk_43 (dk_at dksX7_accepts_0 4 rfl rfl)
theorem dX7_accepts_5 : decode cX7_accepts 5 = .ok (.invokevirtual 88, 3) := dk_182 0 88 (dk_at dksX7_accepts_0 5 rfl rfl)
theorem dX7_accepts_8 : decode cX7_accepts 8 = .ok (.istore_n 2, 1) := dk_61 (dk_at dksX7_accepts_0 8 rfl rfl)
theorem dX7_accepts_9 : decode cX7_accepts 9 = .ok (.iload_n 2, 1) := dk_28 (dk_at dksX7_accepts_0 9 rfl rfl)
theorem dX7_accepts_10 : decode cX7_accepts 10 = .ok (.ifCond .eq 7, 3) := dk_153 0 7 (dk_at dksX7_accepts_0 10 rfl rfl)
theorem dX7_accepts_13 : decode cX7_accepts 13 = .ok (.aload_n 0, 1) := dk_42 (dk_at dksX7_accepts_0 13 rfl rfl)
theorem dX7_accepts_14 : decode cX7_accepts 14 = .ok (.invokevirtual 94, 3) := dk_182 0 94 (dk_at dksX7_accepts_0 14 rfl rfl)
theorem dX7_accepts_17 : decode cX7_accepts 17 = .ok (.iload_n 2, 1) := dk_28 (dk_at dksX7_accepts_0 17 rfl rfl)
theorem dX7_accepts_18 : decode cX7_accepts 18 = .ok (.ireturn, 1) := dk_172 (dk_at dksX7_accepts_0 18 rfl rfl)
abbrev cX7_require : ByteArray := prog_6_method_5_code
def yX7_require : MethodName := ⟨RX7, "require", "(Z)V"⟩
def dkwX7_require_0 : List UInt8 := [27, 154, 0, 15, 187, 0, 83, 89, 42, 180, 0, 33, 183, 0, 85, 191, 177]
abbrev dktX7_require_0 : List UInt8 := dkwX7_require_0 ++ []
theorem dksX7_require_0 : cX7_require.data.toList.drop 0 = dktX7_require_0 := by decide +kernel
theorem dX7_require_0 : decode cX7_require 0 = .ok (.iload_n 1, 1) := dk_27 (dk_at dksX7_require_0 0 rfl rfl)
theorem dX7_require_1 : decode cX7_require 1 = .ok (.ifCond .ne 15, 3) := dk_154 0 15 (dk_at dksX7_require_0 1 rfl rfl)
theorem dX7_require_4 : decode cX7_require 4 = .ok (.new 83, 3) := dk_187 0 83 (dk_at dksX7_require_0 4 rfl rfl)
theorem dX7_require_7 : decode cX7_require 7 = .ok (.dup, 1) := dk_89 (dk_at dksX7_require_0 7 rfl rfl)
theorem dX7_require_8 : decode cX7_require 8 = .ok (.aload_n 0, 1) := dk_42 (dk_at dksX7_require_0 8 rfl rfl)
theorem dX7_require_9 : decode cX7_require 9 = .ok (.getfield 33, 3) := dk_180 0 33 (dk_at dksX7_require_0 9 rfl rfl)
theorem dX7_require_12 : decode cX7_require 12 = .ok (.invokespecial 85, 3) := dk_183 0 85 (dk_at dksX7_require_0 12 rfl rfl)
theorem dX7_require_15 : decode cX7_require 15 = .ok (.athrow, 1) := dk_191 (dk_at dksX7_require_0 15 rfl rfl)
theorem dX7_require_16 : decode cX7_require 16 = .ok (.return_, 1) := dk_177 (dk_at dksX7_require_0 16 rfl rfl)
abbrev cX7_expectNumber : ByteArray := prog_6_method_7_code
def yX7_expectNumber : MethodName := ⟨RX7, "expectNumber", "(II)I"⟩
def dkwX7_expectNumber_1 : List UInt8 := [167, 0, 4, 3, 182, 0, 101, 42, 180, 0, 80, 62, 42, 182, 0, 94, 29, 172]
abbrev dktX7_expectNumber_1 : List UInt8 := dkwX7_expectNumber_1 ++ []
def dkwX7_expectNumber_0 : List UInt8 := [42, 42, 180, 0, 48, 178, 0, 65, 166, 0, 19, 42, 180, 0, 80, 27, 28, 184, 0, 97, 153, 0, 7, 4]
abbrev dktX7_expectNumber_0 : List UInt8 := dkwX7_expectNumber_0 ++ dktX7_expectNumber_1
theorem dksX7_expectNumber_0 : cX7_expectNumber.data.toList.drop 0 = dktX7_expectNumber_0 := by decide +kernel
theorem dksX7_expectNumber_1 : cX7_expectNumber.data.toList.drop 24 = dktX7_expectNumber_1 := dk_seg dksX7_expectNumber_0 24 rfl rfl
theorem dX7_expectNumber_0 : decode cX7_expectNumber 0 = .ok (.aload_n 0, 1) := dk_42 (dk_at dksX7_expectNumber_0 0 rfl rfl)
theorem dX7_expectNumber_1 : decode cX7_expectNumber 1 = .ok (.aload_n 0, 1) := dk_42 (dk_at dksX7_expectNumber_0 1 rfl rfl)
theorem dX7_expectNumber_2 : decode cX7_expectNumber 2 = .ok (.getfield 48, 3) := dk_180 0 48 (dk_at dksX7_expectNumber_0 2 rfl rfl)
theorem dX7_expectNumber_5 : decode cX7_expectNumber 5 = .ok (.getstatic 65, 3) := dk_178 0 65 (dk_at dksX7_expectNumber_0 5 rfl rfl)
theorem dX7_expectNumber_8 : decode cX7_expectNumber 8 = .ok (.if_acmp .ne 19, 3) := dk_166 0 19 (dk_at dksX7_expectNumber_0 8 rfl rfl)
theorem dX7_expectNumber_11 : decode cX7_expectNumber 11 = .ok (.aload_n 0, 1) := dk_42 (dk_at dksX7_expectNumber_0 11 rfl rfl)
theorem dX7_expectNumber_12 : decode cX7_expectNumber 12 = .ok (.getfield 80, 3) := dk_180 0 80 (dk_at dksX7_expectNumber_0 12 rfl rfl)
theorem dX7_expectNumber_15 : decode cX7_expectNumber 15 = .ok (.iload_n 1, 1) := dk_27 (dk_at dksX7_expectNumber_0 15 rfl rfl)
theorem dX7_expectNumber_16 : decode cX7_expectNumber 16 = .ok (.iload_n 2, 1) := dk_28 (dk_at dksX7_expectNumber_0 16 rfl rfl)
theorem dX7_expectNumber_17 : decode cX7_expectNumber 17 = .ok (.invokestatic 97, 3) := dk_184 0 97 (dk_at dksX7_expectNumber_0 17 rfl rfl)
theorem dX7_expectNumber_20 : decode cX7_expectNumber 20 = .ok (.ifCond .eq 7, 3) := dk_153 0 7 (dk_at dksX7_expectNumber_0 20 rfl rfl)
theorem dX7_expectNumber_23 : decode cX7_expectNumber 23 = .ok (.iconst 1, 1) := dk_4 (dk_at dksX7_expectNumber_0 23 rfl rfl)
theorem dX7_expectNumber_24 : decode cX7_expectNumber 24 = .ok (.goto 4, 3) := dk_167 0 4 (dk_at dksX7_expectNumber_1 0 rfl rfl)
theorem dX7_expectNumber_27 : decode cX7_expectNumber 27 = .ok (.iconst 0, 1) := dk_3 (dk_at dksX7_expectNumber_1 3 rfl rfl)
theorem dX7_expectNumber_28 : decode cX7_expectNumber 28 = .ok (.invokevirtual 101, 3) := dk_182 0 101 (dk_at dksX7_expectNumber_1 4 rfl rfl)
theorem dX7_expectNumber_31 : decode cX7_expectNumber 31 = .ok (.aload_n 0, 1) := dk_42 (dk_at dksX7_expectNumber_1 7 rfl rfl)
theorem dX7_expectNumber_32 : decode cX7_expectNumber 32 = .ok (.getfield 80, 3) := dk_180 0 80 (dk_at dksX7_expectNumber_1 8 rfl rfl)
theorem dX7_expectNumber_35 : decode cX7_expectNumber 35 = .ok (.istore_n 3, 1) := dk_62 (dk_at dksX7_expectNumber_1 11 rfl rfl)
theorem dX7_expectNumber_36 : decode cX7_expectNumber 36 = .ok (.aload_n 0, 1) := dk_42 (dk_at dksX7_expectNumber_1 12 rfl rfl)
theorem dX7_expectNumber_37 : decode cX7_expectNumber 37 = .ok (.invokevirtual 94, 3) := dk_182 0 94 (dk_at dksX7_expectNumber_1 13 rfl rfl)
theorem dX7_expectNumber_40 : decode cX7_expectNumber 40 = .ok (.iload_n 3, 1) := dk_29 (dk_at dksX7_expectNumber_1 16 rfl rfl)
theorem dX7_expectNumber_41 : decode cX7_expectNumber 41 = .ok (.ireturn, 1) := dk_172 (dk_at dksX7_expectNumber_1 17 rfl rfl)
abbrev cX7_parseSeparator : ByteArray := prog_6_method_11_code
def yX7_parseSeparator : MethodName := ⟨RX7, "parseSeparator", "()Z"⟩
def dkwX7_parseSeparator_1 : List UInt8 := [167, 0, 4, 3, 182, 0, 101, 42, 182, 0, 94, 4, 172]
abbrev dktX7_parseSeparator_1 : List UInt8 := dkwX7_parseSeparator_1 ++ []
def dkwX7_parseSeparator_0 : List UInt8 := [42, 180, 0, 48, 178, 0, 42, 166, 0, 5, 3, 172, 42, 42, 180, 0, 48, 178, 0, 71, 166, 0, 7, 4]
abbrev dktX7_parseSeparator_0 : List UInt8 := dkwX7_parseSeparator_0 ++ dktX7_parseSeparator_1
theorem dksX7_parseSeparator_0 : cX7_parseSeparator.data.toList.drop 0 = dktX7_parseSeparator_0 := by decide +kernel
theorem dksX7_parseSeparator_1 : cX7_parseSeparator.data.toList.drop 24 = dktX7_parseSeparator_1 := dk_seg dksX7_parseSeparator_0 24 rfl rfl
theorem dX7_parseSeparator_0 : decode cX7_parseSeparator 0 = .ok (.aload_n 0, 1) := dk_42 (dk_at dksX7_parseSeparator_0 0 rfl rfl)
theorem dX7_parseSeparator_1 : decode cX7_parseSeparator 1 = .ok (.getfield 48, 3) := dk_180 0 48 (dk_at dksX7_parseSeparator_0 1 rfl rfl)
theorem dX7_parseSeparator_4 : decode cX7_parseSeparator 4 = .ok (.getstatic 42, 3) := dk_178 0 42 (dk_at dksX7_parseSeparator_0 4 rfl rfl)
theorem dX7_parseSeparator_7 : decode cX7_parseSeparator 7 = .ok (.if_acmp .ne 5, 3) := dk_166 0 5 (dk_at dksX7_parseSeparator_0 7 rfl rfl)
theorem dX7_parseSeparator_10 : decode cX7_parseSeparator 10 = .ok (.iconst 0, 1) := dk_3 (dk_at dksX7_parseSeparator_0 10 rfl rfl)
theorem dX7_parseSeparator_11 : decode cX7_parseSeparator 11 = .ok (.ireturn, 1) := dk_172 (dk_at dksX7_parseSeparator_0 11 rfl rfl)
theorem dX7_parseSeparator_12 : decode cX7_parseSeparator 12 = .ok (.aload_n 0, 1) := dk_42 (dk_at dksX7_parseSeparator_0 12 rfl rfl)
theorem dX7_parseSeparator_13 : decode cX7_parseSeparator 13 = .ok (.aload_n 0, 1) := dk_42 (dk_at dksX7_parseSeparator_0 13 rfl rfl)
theorem dX7_parseSeparator_14 : decode cX7_parseSeparator 14 = .ok (.getfield 48, 3) := dk_180 0 48 (dk_at dksX7_parseSeparator_0 14 rfl rfl)
theorem dX7_parseSeparator_17 : decode cX7_parseSeparator 17 = .ok (.getstatic 71, 3) := dk_178 0 71 (dk_at dksX7_parseSeparator_0 17 rfl rfl)
theorem dX7_parseSeparator_20 : decode cX7_parseSeparator 20 = .ok (.if_acmp .ne 7, 3) := dk_166 0 7 (dk_at dksX7_parseSeparator_0 20 rfl rfl)
theorem dX7_parseSeparator_23 : decode cX7_parseSeparator 23 = .ok (.iconst 1, 1) := dk_4 (dk_at dksX7_parseSeparator_0 23 rfl rfl)
theorem dX7_parseSeparator_24 : decode cX7_parseSeparator 24 = .ok (.goto 4, 3) := dk_167 0 4 (dk_at dksX7_parseSeparator_1 0 rfl rfl)
theorem dX7_parseSeparator_27 : decode cX7_parseSeparator 27 = .ok (.iconst 0, 1) := dk_3 (dk_at dksX7_parseSeparator_1 3 rfl rfl)
theorem dX7_parseSeparator_28 : decode cX7_parseSeparator 28 = .ok (.invokevirtual 101, 3) := dk_182 0 101 (dk_at dksX7_parseSeparator_1 4 rfl rfl)
theorem dX7_parseSeparator_31 : decode cX7_parseSeparator 31 = .ok (.aload_n 0, 1) := dk_42 (dk_at dksX7_parseSeparator_1 7 rfl rfl)
theorem dX7_parseSeparator_32 : decode cX7_parseSeparator 32 = .ok (.invokevirtual 94, 3) := dk_182 0 94 (dk_at dksX7_parseSeparator_1 8 rfl rfl)
theorem dX7_parseSeparator_35 : decode cX7_parseSeparator 35 = .ok (.iconst 1, 1) := dk_4 (dk_at dksX7_parseSeparator_1 11 rfl rfl)
theorem dX7_parseSeparator_36 : decode cX7_parseSeparator 36 = .ok (.ireturn, 1) := dk_172 (dk_at dksX7_parseSeparator_1 12 rfl rfl)
abbrev cX7_parseInn : ByteArray := prog_6_method_12_code
def yX7_parseInn : MethodName := ⟨RX7, "parseInn", "(LInnRoad$Road;)V"⟩
def dkwX7_parseInn_4 : List UInt8 := [167, 0, 4, 3, 21, 5, 183, 0, 178, 83, 177]
abbrev dktX7_parseInn_4 : List UInt8 := dkwX7_parseInn_4 ++ []
def dkwX7_parseInn_3 : List UInt8 := [167, 0, 4, 3, 54, 5, 43, 180, 0, 172, 28, 187, 0, 176, 89, 29, 21, 4, 154, 0, 7, 4]
abbrev dktX7_parseInn_3 : List UInt8 := dkwX7_parseInn_3 ++ dktX7_parseInn_4
def dkwX7_parseInn_2 : List UInt8 := [42, 18, 168, 182, 0, 137, 54, 4, 42, 18, 170, 182, 0, 137, 153, 0, 13, 42, 4, 16, 99, 182, 0, 105]
abbrev dktX7_parseInn_2 : List UInt8 := dkwX7_parseInn_2 ++ dktX7_parseInn_3
def dkwX7_parseInn_1 : List UInt8 := [182, 0, 164, 2, 160, 0, 7, 4, 167, 0, 4, 3, 182, 0, 101, 42, 3, 17, 3, 231, 182, 0, 105, 62]
abbrev dktX7_parseInn_1 : List UInt8 := dkwX7_parseInn_1 ++ dktX7_parseInn_2
def dkwX7_parseInn_0 : List UInt8 := [42, 18, 148, 182, 0, 160, 61, 42, 42, 180, 0, 48, 178, 0, 65, 166, 0, 15, 43, 42, 180, 0, 80]
abbrev dktX7_parseInn_0 : List UInt8 := dkwX7_parseInn_0 ++ dktX7_parseInn_1
theorem dksX7_parseInn_0 : cX7_parseInn.data.toList.drop 0 = dktX7_parseInn_0 := by decide +kernel
theorem dksX7_parseInn_1 : cX7_parseInn.data.toList.drop 23 = dktX7_parseInn_1 := dk_seg dksX7_parseInn_0 23 rfl rfl
theorem dksX7_parseInn_2 : cX7_parseInn.data.toList.drop 47 = dktX7_parseInn_2 := dk_seg dksX7_parseInn_1 24 rfl rfl
theorem dksX7_parseInn_3 : cX7_parseInn.data.toList.drop 71 = dktX7_parseInn_3 := dk_seg dksX7_parseInn_2 24 rfl rfl
theorem dksX7_parseInn_4 : cX7_parseInn.data.toList.drop 93 = dktX7_parseInn_4 := dk_seg dksX7_parseInn_3 22 rfl rfl
theorem dX7_parseInn_0 : decode cX7_parseInn 0 = .ok (.aload_n 0, 1) := dk_42 (dk_at dksX7_parseInn_0 0 rfl rfl)
theorem dX7_parseInn_1 : decode cX7_parseInn 1 = .ok (.ldc 148, 2) := dk_18 148 (dk_at dksX7_parseInn_0 1 rfl rfl)
theorem dX7_parseInn_3 : decode cX7_parseInn 3 = .ok (.invokevirtual 160, 3) := dk_182 0 160 (dk_at dksX7_parseInn_0 3 rfl rfl)
theorem dX7_parseInn_6 : decode cX7_parseInn 6 = .ok (.istore_n 2, 1) := dk_61 (dk_at dksX7_parseInn_0 6 rfl rfl)
theorem dX7_parseInn_7 : decode cX7_parseInn 7 = .ok (.aload_n 0, 1) := dk_42 (dk_at dksX7_parseInn_0 7 rfl rfl)
theorem dX7_parseInn_8 : decode cX7_parseInn 8 = .ok (.aload_n 0, 1) := dk_42 (dk_at dksX7_parseInn_0 8 rfl rfl)
theorem dX7_parseInn_9 : decode cX7_parseInn 9 = .ok (.getfield 48, 3) := dk_180 0 48 (dk_at dksX7_parseInn_0 9 rfl rfl)
theorem dX7_parseInn_12 : decode cX7_parseInn 12 = .ok (.getstatic 65, 3) := dk_178 0 65 (dk_at dksX7_parseInn_0 12 rfl rfl)
theorem dX7_parseInn_15 : decode cX7_parseInn 15 = .ok (.if_acmp .ne 15, 3) := dk_166 0 15 (dk_at dksX7_parseInn_0 15 rfl rfl)
theorem dX7_parseInn_18 : decode cX7_parseInn 18 = .ok (.aload_n 1, 1) := dk_43 (dk_at dksX7_parseInn_0 18 rfl rfl)
theorem dX7_parseInn_19 : decode cX7_parseInn 19 = .ok (.aload_n 0, 1) := dk_42 (dk_at dksX7_parseInn_0 19 rfl rfl)
theorem dX7_parseInn_20 : decode cX7_parseInn 20 = .ok (.getfield 80, 3) := dk_180 0 80 (dk_at dksX7_parseInn_0 20 rfl rfl)
theorem dX7_parseInn_23 : decode cX7_parseInn 23 = .ok (.invokevirtual 164, 3) := dk_182 0 164 (dk_at dksX7_parseInn_1 0 rfl rfl)
theorem dX7_parseInn_26 : decode cX7_parseInn 26 = .ok (.iconst (-1), 1) := dk_2 (dk_at dksX7_parseInn_1 3 rfl rfl)
theorem dX7_parseInn_27 : decode cX7_parseInn 27 = .ok (.if_icmp .ne 7, 3) := dk_160 0 7 (dk_at dksX7_parseInn_1 4 rfl rfl)
theorem dX7_parseInn_30 : decode cX7_parseInn 30 = .ok (.iconst 1, 1) := dk_4 (dk_at dksX7_parseInn_1 7 rfl rfl)
theorem dX7_parseInn_31 : decode cX7_parseInn 31 = .ok (.goto 4, 3) := dk_167 0 4 (dk_at dksX7_parseInn_1 8 rfl rfl)
theorem dX7_parseInn_34 : decode cX7_parseInn 34 = .ok (.iconst 0, 1) := dk_3 (dk_at dksX7_parseInn_1 11 rfl rfl)
theorem dX7_parseInn_35 : decode cX7_parseInn 35 = .ok (.invokevirtual 101, 3) := dk_182 0 101 (dk_at dksX7_parseInn_1 12 rfl rfl)
theorem dX7_parseInn_38 : decode cX7_parseInn 38 = .ok (.aload_n 0, 1) := dk_42 (dk_at dksX7_parseInn_1 15 rfl rfl)
theorem dX7_parseInn_39 : decode cX7_parseInn 39 = .ok (.iconst 0, 1) := dk_3 (dk_at dksX7_parseInn_1 16 rfl rfl)
theorem dX7_parseInn_40 : decode cX7_parseInn 40 = .ok (.sipush 999, 3) := dk_17 3 231 (dk_at dksX7_parseInn_1 17 rfl rfl)
theorem dX7_parseInn_43 : decode cX7_parseInn 43 = .ok (.invokevirtual 105, 3) := dk_182 0 105 (dk_at dksX7_parseInn_1 20 rfl rfl)
theorem dX7_parseInn_46 : decode cX7_parseInn 46 = .ok (.istore_n 3, 1) := dk_62 (dk_at dksX7_parseInn_1 23 rfl rfl)
theorem dX7_parseInn_47 : decode cX7_parseInn 47 = .ok (.aload_n 0, 1) := dk_42 (dk_at dksX7_parseInn_2 0 rfl rfl)
theorem dX7_parseInn_48 : decode cX7_parseInn 48 = .ok (.ldc 168, 2) := dk_18 168 (dk_at dksX7_parseInn_2 1 rfl rfl)
theorem dX7_parseInn_50 : decode cX7_parseInn 50 = .ok (.invokevirtual 137, 3) := dk_182 0 137 (dk_at dksX7_parseInn_2 3 rfl rfl)
theorem dX7_parseInn_53 : decode cX7_parseInn 53 = .ok (.istore 4, 2) := dk_54 4 (dk_at dksX7_parseInn_2 6 rfl rfl)
theorem dX7_parseInn_55 : decode cX7_parseInn 55 = .ok (.aload_n 0, 1) := dk_42 (dk_at dksX7_parseInn_2 8 rfl rfl)
theorem dX7_parseInn_56 : decode cX7_parseInn 56 = .ok (.ldc 170, 2) := dk_18 170 (dk_at dksX7_parseInn_2 9 rfl rfl)
theorem dX7_parseInn_58 : decode cX7_parseInn 58 = .ok (.invokevirtual 137, 3) := dk_182 0 137 (dk_at dksX7_parseInn_2 11 rfl rfl)
theorem dX7_parseInn_61 : decode cX7_parseInn 61 = .ok (.ifCond .eq 13, 3) := dk_153 0 13 (dk_at dksX7_parseInn_2 14 rfl rfl)
theorem dX7_parseInn_64 : decode cX7_parseInn 64 = .ok (.aload_n 0, 1) := dk_42 (dk_at dksX7_parseInn_2 17 rfl rfl)
theorem dX7_parseInn_65 : decode cX7_parseInn 65 = .ok (.iconst 1, 1) := dk_4 (dk_at dksX7_parseInn_2 18 rfl rfl)
theorem dX7_parseInn_66 : decode cX7_parseInn 66 = .ok (.bipush 99, 2) := dk_16 99 (dk_at dksX7_parseInn_2 19 rfl rfl)
theorem dX7_parseInn_68 : decode cX7_parseInn 68 = .ok (.invokevirtual 105, 3) := dk_182 0 105 (dk_at dksX7_parseInn_2 21 rfl rfl)
theorem dX7_parseInn_71 : decode cX7_parseInn 71 = .ok (.goto 4, 3) := dk_167 0 4 (dk_at dksX7_parseInn_3 0 rfl rfl)
theorem dX7_parseInn_74 : decode cX7_parseInn 74 = .ok (.iconst 0, 1) := dk_3 (dk_at dksX7_parseInn_3 3 rfl rfl)
theorem dX7_parseInn_75 : decode cX7_parseInn 75 = .ok (.istore 5, 2) := dk_54 5 (dk_at dksX7_parseInn_3 4 rfl rfl)
theorem dX7_parseInn_77 : decode cX7_parseInn 77 = .ok (.aload_n 1, 1) := dk_43 (dk_at dksX7_parseInn_3 6 rfl rfl)
theorem dX7_parseInn_78 : decode cX7_parseInn 78 = .ok (.getfield 172, 3) := dk_180 0 172 (dk_at dksX7_parseInn_3 7 rfl rfl)
theorem dX7_parseInn_81 : decode cX7_parseInn 81 = .ok (.iload_n 2, 1) := dk_28 (dk_at dksX7_parseInn_3 10 rfl rfl)
theorem dX7_parseInn_82 : decode cX7_parseInn 82 = .ok (.new 176, 3) := dk_187 0 176 (dk_at dksX7_parseInn_3 11 rfl rfl)
theorem dX7_parseInn_85 : decode cX7_parseInn 85 = .ok (.dup, 1) := dk_89 (dk_at dksX7_parseInn_3 14 rfl rfl)
theorem dX7_parseInn_86 : decode cX7_parseInn 86 = .ok (.iload_n 3, 1) := dk_29 (dk_at dksX7_parseInn_3 15 rfl rfl)
theorem dX7_parseInn_87 : decode cX7_parseInn 87 = .ok (.iload 4, 2) := dk_21 4 (dk_at dksX7_parseInn_3 16 rfl rfl)
theorem dX7_parseInn_89 : decode cX7_parseInn 89 = .ok (.ifCond .ne 7, 3) := dk_154 0 7 (dk_at dksX7_parseInn_3 18 rfl rfl)
theorem dX7_parseInn_92 : decode cX7_parseInn 92 = .ok (.iconst 1, 1) := dk_4 (dk_at dksX7_parseInn_3 21 rfl rfl)
theorem dX7_parseInn_93 : decode cX7_parseInn 93 = .ok (.goto 4, 3) := dk_167 0 4 (dk_at dksX7_parseInn_4 0 rfl rfl)
theorem dX7_parseInn_96 : decode cX7_parseInn 96 = .ok (.iconst 0, 1) := dk_3 (dk_at dksX7_parseInn_4 3 rfl rfl)
theorem dX7_parseInn_97 : decode cX7_parseInn 97 = .ok (.iload 5, 2) := dk_21 5 (dk_at dksX7_parseInn_4 4 rfl rfl)
theorem dX7_parseInn_99 : decode cX7_parseInn 99 = .ok (.invokespecial 178, 3) := dk_183 0 178 (dk_at dksX7_parseInn_4 6 rfl rfl)
theorem dX7_parseInn_102 : decode cX7_parseInn 102 = .ok (.aastore, 1) := dk_83 (dk_at dksX7_parseInn_4 9 rfl rfl)
theorem dX7_parseInn_103 : decode cX7_parseInn 103 = .ok (.return_, 1) := dk_177 (dk_at dksX7_parseInn_4 10 rfl rfl)
abbrev cX7_expectIndex : ByteArray := prog_6_method_9_code
def yX7_expectIndex : MethodName := ⟨RX7, "expectIndex", "(Ljava/lang/String;)I"⟩
def dkwX7_expectIndex_2 : List UInt8 := [180, 0, 12, 43, 29, 184, 0, 124, 185, 0, 128, 3, 0, 87, 29, 172]
abbrev dktX7_expectIndex_2 : List UInt8 := dkwX7_expectIndex_2 ++ []
def dkwX7_expectIndex_1 : List UInt8 := [192, 0, 118, 182, 0, 120, 4, 96, 167, 0, 4, 3, 61, 42, 28, 16, 11, 182, 0, 105, 62, 42]
abbrev dktX7_expectIndex_1 : List UInt8 := dkwX7_expectIndex_1 ++ dktX7_expectIndex_2
def dkwX7_expectIndex_0 : List UInt8 := [42, 180, 0, 12, 43, 185, 0, 109, 2, 0, 153, 0, 24, 42, 180, 0, 12, 43, 185, 0, 114, 2, 0]
abbrev dktX7_expectIndex_0 : List UInt8 := dkwX7_expectIndex_0 ++ dktX7_expectIndex_1
theorem dksX7_expectIndex_0 : cX7_expectIndex.data.toList.drop 0 = dktX7_expectIndex_0 := by decide +kernel
theorem dksX7_expectIndex_1 : cX7_expectIndex.data.toList.drop 23 = dktX7_expectIndex_1 := dk_seg dksX7_expectIndex_0 23 rfl rfl
theorem dksX7_expectIndex_2 : cX7_expectIndex.data.toList.drop 45 = dktX7_expectIndex_2 := dk_seg dksX7_expectIndex_1 22 rfl rfl
theorem dX7_expectIndex_0 : decode cX7_expectIndex 0 = .ok (.aload_n 0, 1) := dk_42 (dk_at dksX7_expectIndex_0 0 rfl rfl)
theorem dX7_expectIndex_1 : decode cX7_expectIndex 1 = .ok (.getfield 12, 3) := dk_180 0 12 (dk_at dksX7_expectIndex_0 1 rfl rfl)
theorem dX7_expectIndex_4 : decode cX7_expectIndex 4 = .ok (.aload_n 1, 1) := dk_43 (dk_at dksX7_expectIndex_0 4 rfl rfl)
theorem dX7_expectIndex_5 : decode cX7_expectIndex 5 = .ok (.invokeinterface 109 2, 5) := by decide +kernel
theorem dX7_expectIndex_10 : decode cX7_expectIndex 10 = .ok (.ifCond .eq 24, 3) := dk_153 0 24 (dk_at dksX7_expectIndex_0 10 rfl rfl)
theorem dX7_expectIndex_13 : decode cX7_expectIndex 13 = .ok (.aload_n 0, 1) := dk_42 (dk_at dksX7_expectIndex_0 13 rfl rfl)
theorem dX7_expectIndex_14 : decode cX7_expectIndex 14 = .ok (.getfield 12, 3) := dk_180 0 12 (dk_at dksX7_expectIndex_0 14 rfl rfl)
theorem dX7_expectIndex_17 : decode cX7_expectIndex 17 = .ok (.aload_n 1, 1) := dk_43 (dk_at dksX7_expectIndex_0 17 rfl rfl)
theorem dX7_expectIndex_18 : decode cX7_expectIndex 18 = .ok (.invokeinterface 114 2, 5) := by decide +kernel
theorem dX7_expectIndex_23 : decode cX7_expectIndex 23 = .ok (.checkcast 118, 3) := dk_192 0 118 (dk_at dksX7_expectIndex_1 0 rfl rfl)
theorem dX7_expectIndex_26 : decode cX7_expectIndex 26 = .ok (.invokevirtual 120, 3) := dk_182 0 120 (dk_at dksX7_expectIndex_1 3 rfl rfl)
theorem dX7_expectIndex_29 : decode cX7_expectIndex 29 = .ok (.iconst 1, 1) := dk_4 (dk_at dksX7_expectIndex_1 6 rfl rfl)
theorem dX7_expectIndex_30 : decode cX7_expectIndex 30 = .ok (.iadd, 1) := dk_96 (dk_at dksX7_expectIndex_1 7 rfl rfl)
theorem dX7_expectIndex_31 : decode cX7_expectIndex 31 = .ok (.goto 4, 3) := dk_167 0 4 (dk_at dksX7_expectIndex_1 8 rfl rfl)
theorem dX7_expectIndex_34 : decode cX7_expectIndex 34 = .ok (.iconst 0, 1) := dk_3 (dk_at dksX7_expectIndex_1 11 rfl rfl)
theorem dX7_expectIndex_35 : decode cX7_expectIndex 35 = .ok (.istore_n 2, 1) := dk_61 (dk_at dksX7_expectIndex_1 12 rfl rfl)
theorem dX7_expectIndex_36 : decode cX7_expectIndex 36 = .ok (.aload_n 0, 1) := dk_42 (dk_at dksX7_expectIndex_1 13 rfl rfl)
theorem dX7_expectIndex_37 : decode cX7_expectIndex 37 = .ok (.iload_n 2, 1) := dk_28 (dk_at dksX7_expectIndex_1 14 rfl rfl)
theorem dX7_expectIndex_38 : decode cX7_expectIndex 38 = .ok (.bipush 11, 2) := dk_16 11 (dk_at dksX7_expectIndex_1 15 rfl rfl)
theorem dX7_expectIndex_40 : decode cX7_expectIndex 40 = .ok (.invokevirtual 105, 3) := dk_182 0 105 (dk_at dksX7_expectIndex_1 17 rfl rfl)
theorem dX7_expectIndex_43 : decode cX7_expectIndex 43 = .ok (.istore_n 3, 1) := dk_62 (dk_at dksX7_expectIndex_1 20 rfl rfl)
theorem dX7_expectIndex_44 : decode cX7_expectIndex 44 = .ok (.aload_n 0, 1) := dk_42 (dk_at dksX7_expectIndex_1 21 rfl rfl)
theorem dX7_expectIndex_45 : decode cX7_expectIndex 45 = .ok (.getfield 12, 3) := dk_180 0 12 (dk_at dksX7_expectIndex_2 0 rfl rfl)
theorem dX7_expectIndex_48 : decode cX7_expectIndex 48 = .ok (.aload_n 1, 1) := dk_43 (dk_at dksX7_expectIndex_2 3 rfl rfl)
theorem dX7_expectIndex_49 : decode cX7_expectIndex 49 = .ok (.iload_n 3, 1) := dk_29 (dk_at dksX7_expectIndex_2 4 rfl rfl)
theorem dX7_expectIndex_50 : decode cX7_expectIndex 50 = .ok (.invokestatic 124, 3) := dk_184 0 124 (dk_at dksX7_expectIndex_2 5 rfl rfl)
theorem dX7_expectIndex_53 : decode cX7_expectIndex 53 = .ok (.invokeinterface 128 3, 5) := by decide +kernel
theorem dX7_expectIndex_58 : decode cX7_expectIndex 58 = .ok (.pop, 1) := dk_87 (dk_at dksX7_expectIndex_2 13 rfl rfl)
theorem dX7_expectIndex_59 : decode cX7_expectIndex 59 = .ok (.iload_n 3, 1) := dk_29 (dk_at dksX7_expectIndex_2 14 rfl rfl)
theorem dX7_expectIndex_60 : decode cX7_expectIndex 60 = .ok (.ireturn, 1) := dk_172 (dk_at dksX7_expectIndex_2 15 rfl rfl)
abbrev cX7_parseValues : ByteArray := prog_6_method_13_code
def yX7_parseValues : MethodName := ⟨RX7, "parseValues", "(LInnRoad$Road;)V"⟩
def dkwX7_parseValues_5 : List UInt8 := [153, 0, 18, 42, 43, 18, 211, 44, 180, 0, 213, 182, 0, 207, 62, 167, 255, 240, 177]
abbrev dktX7_parseValues_5 : List UInt8 := dkwX7_parseValues_5 ++ []
def dkwX7_parseValues_4 : List UInt8 := [182, 0, 88, 153, 0, 18, 42, 43, 18, 202, 44, 180, 0, 204, 182, 0, 207, 62, 167, 255, 228, 29]
abbrev dktX7_parseValues_4 : List UInt8 := dkwX7_parseValues_4 ++ dktX7_parseValues_5
def dkwX7_parseValues_3 : List UInt8 := [16, 12, 182, 0, 105, 181, 0, 200, 42, 182, 0, 144, 62, 29, 153, 0, 30, 42, 180, 0, 38, 18, 202]
abbrev dktX7_parseValues_3 : List UInt8 := dkwX7_parseValues_3 ++ dktX7_parseValues_4
def dkwX7_parseValues_2 : List UInt8 := [181, 0, 196, 42, 182, 0, 144, 62, 29, 153, 0, 28, 42, 18, 198, 182, 0, 137, 153, 0, 19, 44, 42, 3]
abbrev dktX7_parseValues_2 : List UInt8 := dkwX7_parseValues_2 ++ dktX7_parseValues_3
def dkwX7_parseValues_1 : List UInt8 := [42, 182, 0, 144, 62, 29, 153, 0, 25, 42, 18, 194, 182, 0, 137, 153, 0, 16, 44, 42, 182, 0, 187]
abbrev dktX7_parseValues_1 : List UInt8 := dkwX7_parseValues_1 ++ dktX7_parseValues_2
def dkwX7_parseValues_0 : List UInt8 := [43, 180, 0, 181, 77, 4, 62, 42, 18, 185, 182, 0, 137, 153, 0, 16, 44, 42, 182, 0, 187, 181, 0, 190]
abbrev dktX7_parseValues_0 : List UInt8 := dkwX7_parseValues_0 ++ dktX7_parseValues_1
theorem dksX7_parseValues_0 : cX7_parseValues.data.toList.drop 0 = dktX7_parseValues_0 := by decide +kernel
theorem dksX7_parseValues_1 : cX7_parseValues.data.toList.drop 24 = dktX7_parseValues_1 := dk_seg dksX7_parseValues_0 24 rfl rfl
theorem dksX7_parseValues_2 : cX7_parseValues.data.toList.drop 47 = dktX7_parseValues_2 := dk_seg dksX7_parseValues_1 23 rfl rfl
theorem dksX7_parseValues_3 : cX7_parseValues.data.toList.drop 71 = dktX7_parseValues_3 := dk_seg dksX7_parseValues_2 24 rfl rfl
theorem dksX7_parseValues_4 : cX7_parseValues.data.toList.drop 94 = dktX7_parseValues_4 := dk_seg dksX7_parseValues_3 23 rfl rfl
theorem dksX7_parseValues_5 : cX7_parseValues.data.toList.drop 116 = dktX7_parseValues_5 := dk_seg dksX7_parseValues_4 22 rfl rfl
theorem dX7_parseValues_0 : decode cX7_parseValues 0 = .ok (.aload_n 1, 1) := dk_43 (dk_at dksX7_parseValues_0 0 rfl rfl)
theorem dX7_parseValues_1 : decode cX7_parseValues 1 = .ok (.getfield 181, 3) := dk_180 0 181 (dk_at dksX7_parseValues_0 1 rfl rfl)
theorem dX7_parseValues_4 : decode cX7_parseValues 4 = .ok (.astore_n 2, 1) := dk_77 (dk_at dksX7_parseValues_0 4 rfl rfl)
theorem dX7_parseValues_5 : decode cX7_parseValues 5 = .ok (.iconst 1, 1) := dk_4 (dk_at dksX7_parseValues_0 5 rfl rfl)
theorem dX7_parseValues_6 : decode cX7_parseValues 6 = .ok (.istore_n 3, 1) := dk_62 (dk_at dksX7_parseValues_0 6 rfl rfl)
theorem dX7_parseValues_7 : decode cX7_parseValues 7 = .ok (.aload_n 0, 1) := dk_42 (dk_at dksX7_parseValues_0 7 rfl rfl)
theorem dX7_parseValues_8 : decode cX7_parseValues 8 = .ok (.ldc 185, 2) := dk_18 185 (dk_at dksX7_parseValues_0 8 rfl rfl)
theorem dX7_parseValues_10 : decode cX7_parseValues 10 = .ok (.invokevirtual 137, 3) := dk_182 0 137 (dk_at dksX7_parseValues_0 10 rfl rfl)
theorem dX7_parseValues_13 : decode cX7_parseValues 13 = .ok (.ifCond .eq 16, 3) := dk_153 0 16 (dk_at dksX7_parseValues_0 13 rfl rfl)
theorem dX7_parseValues_16 : decode cX7_parseValues 16 = .ok (.aload_n 2, 1) := dk_44 (dk_at dksX7_parseValues_0 16 rfl rfl)
theorem dX7_parseValues_17 : decode cX7_parseValues 17 = .ok (.aload_n 0, 1) := dk_42 (dk_at dksX7_parseValues_0 17 rfl rfl)
theorem dX7_parseValues_18 : decode cX7_parseValues 18 = .ok (.invokevirtual 187, 3) := dk_182 0 187 (dk_at dksX7_parseValues_0 18 rfl rfl)
theorem dX7_parseValues_21 : decode cX7_parseValues 21 = .ok (.putfield 190, 3) := dk_181 0 190 (dk_at dksX7_parseValues_0 21 rfl rfl)
theorem dX7_parseValues_24 : decode cX7_parseValues 24 = .ok (.aload_n 0, 1) := dk_42 (dk_at dksX7_parseValues_1 0 rfl rfl)
theorem dX7_parseValues_25 : decode cX7_parseValues 25 = .ok (.invokevirtual 144, 3) := dk_182 0 144 (dk_at dksX7_parseValues_1 1 rfl rfl)
theorem dX7_parseValues_28 : decode cX7_parseValues 28 = .ok (.istore_n 3, 1) := dk_62 (dk_at dksX7_parseValues_1 4 rfl rfl)
theorem dX7_parseValues_29 : decode cX7_parseValues 29 = .ok (.iload_n 3, 1) := dk_29 (dk_at dksX7_parseValues_1 5 rfl rfl)
theorem dX7_parseValues_30 : decode cX7_parseValues 30 = .ok (.ifCond .eq 25, 3) := dk_153 0 25 (dk_at dksX7_parseValues_1 6 rfl rfl)
theorem dX7_parseValues_33 : decode cX7_parseValues 33 = .ok (.aload_n 0, 1) := dk_42 (dk_at dksX7_parseValues_1 9 rfl rfl)
theorem dX7_parseValues_34 : decode cX7_parseValues 34 = .ok (.ldc 194, 2) := dk_18 194 (dk_at dksX7_parseValues_1 10 rfl rfl)
theorem dX7_parseValues_36 : decode cX7_parseValues 36 = .ok (.invokevirtual 137, 3) := dk_182 0 137 (dk_at dksX7_parseValues_1 12 rfl rfl)
theorem dX7_parseValues_39 : decode cX7_parseValues 39 = .ok (.ifCond .eq 16, 3) := dk_153 0 16 (dk_at dksX7_parseValues_1 15 rfl rfl)
theorem dX7_parseValues_42 : decode cX7_parseValues 42 = .ok (.aload_n 2, 1) := dk_44 (dk_at dksX7_parseValues_1 18 rfl rfl)
theorem dX7_parseValues_43 : decode cX7_parseValues 43 = .ok (.aload_n 0, 1) := dk_42 (dk_at dksX7_parseValues_1 19 rfl rfl)
theorem dX7_parseValues_44 : decode cX7_parseValues 44 = .ok (.invokevirtual 187, 3) := dk_182 0 187 (dk_at dksX7_parseValues_1 20 rfl rfl)
theorem dX7_parseValues_47 : decode cX7_parseValues 47 = .ok (.putfield 196, 3) := dk_181 0 196 (dk_at dksX7_parseValues_2 0 rfl rfl)
theorem dX7_parseValues_50 : decode cX7_parseValues 50 = .ok (.aload_n 0, 1) := dk_42 (dk_at dksX7_parseValues_2 3 rfl rfl)
theorem dX7_parseValues_51 : decode cX7_parseValues 51 = .ok (.invokevirtual 144, 3) := dk_182 0 144 (dk_at dksX7_parseValues_2 4 rfl rfl)
theorem dX7_parseValues_54 : decode cX7_parseValues 54 = .ok (.istore_n 3, 1) := dk_62 (dk_at dksX7_parseValues_2 7 rfl rfl)
theorem dX7_parseValues_55 : decode cX7_parseValues 55 = .ok (.iload_n 3, 1) := dk_29 (dk_at dksX7_parseValues_2 8 rfl rfl)
theorem dX7_parseValues_56 : decode cX7_parseValues 56 = .ok (.ifCond .eq 28, 3) := dk_153 0 28 (dk_at dksX7_parseValues_2 9 rfl rfl)
theorem dX7_parseValues_59 : decode cX7_parseValues 59 = .ok (.aload_n 0, 1) := dk_42 (dk_at dksX7_parseValues_2 12 rfl rfl)
theorem dX7_parseValues_60 : decode cX7_parseValues 60 = .ok (.ldc 198, 2) := dk_18 198 (dk_at dksX7_parseValues_2 13 rfl rfl)
theorem dX7_parseValues_62 : decode cX7_parseValues 62 = .ok (.invokevirtual 137, 3) := dk_182 0 137 (dk_at dksX7_parseValues_2 15 rfl rfl)
theorem dX7_parseValues_65 : decode cX7_parseValues 65 = .ok (.ifCond .eq 19, 3) := dk_153 0 19 (dk_at dksX7_parseValues_2 18 rfl rfl)
theorem dX7_parseValues_68 : decode cX7_parseValues 68 = .ok (.aload_n 2, 1) := dk_44 (dk_at dksX7_parseValues_2 21 rfl rfl)
theorem dX7_parseValues_69 : decode cX7_parseValues 69 = .ok (.aload_n 0, 1) := dk_42 (dk_at dksX7_parseValues_2 22 rfl rfl)
theorem dX7_parseValues_70 : decode cX7_parseValues 70 = .ok (.iconst 0, 1) := dk_3 (dk_at dksX7_parseValues_2 23 rfl rfl)
theorem dX7_parseValues_71 : decode cX7_parseValues 71 = .ok (.bipush 12, 2) := dk_16 12 (dk_at dksX7_parseValues_3 0 rfl rfl)
theorem dX7_parseValues_73 : decode cX7_parseValues 73 = .ok (.invokevirtual 105, 3) := dk_182 0 105 (dk_at dksX7_parseValues_3 2 rfl rfl)
theorem dX7_parseValues_76 : decode cX7_parseValues 76 = .ok (.putfield 200, 3) := dk_181 0 200 (dk_at dksX7_parseValues_3 5 rfl rfl)
theorem dX7_parseValues_79 : decode cX7_parseValues 79 = .ok (.aload_n 0, 1) := dk_42 (dk_at dksX7_parseValues_3 8 rfl rfl)
theorem dX7_parseValues_80 : decode cX7_parseValues 80 = .ok (.invokevirtual 144, 3) := dk_182 0 144 (dk_at dksX7_parseValues_3 9 rfl rfl)
theorem dX7_parseValues_83 : decode cX7_parseValues 83 = .ok (.istore_n 3, 1) := dk_62 (dk_at dksX7_parseValues_3 12 rfl rfl)
theorem dX7_parseValues_84 : decode cX7_parseValues 84 = .ok (.iload_n 3, 1) := dk_29 (dk_at dksX7_parseValues_3 13 rfl rfl)
theorem dX7_parseValues_85 : decode cX7_parseValues 85 = .ok (.ifCond .eq 30, 3) := dk_153 0 30 (dk_at dksX7_parseValues_3 14 rfl rfl)
theorem dX7_parseValues_88 : decode cX7_parseValues 88 = .ok (.aload_n 0, 1) := dk_42 (dk_at dksX7_parseValues_3 17 rfl rfl)
theorem dX7_parseValues_89 : decode cX7_parseValues 89 = .ok (.getfield 38, 3) := dk_180 0 38 (dk_at dksX7_parseValues_3 18 rfl rfl)
theorem dX7_parseValues_92 : decode cX7_parseValues 92 = .ok (.ldc 202, 2) := dk_18 202 (dk_at dksX7_parseValues_3 21 rfl rfl)
theorem dX7_parseValues_94 : decode cX7_parseValues 94 = .ok (.invokevirtual 88, 3) := dk_182 0 88 (dk_at dksX7_parseValues_4 0 rfl rfl)
theorem dX7_parseValues_97 : decode cX7_parseValues 97 = .ok (.ifCond .eq 18, 3) := dk_153 0 18 (dk_at dksX7_parseValues_4 3 rfl rfl)
theorem dX7_parseValues_100 : decode cX7_parseValues 100 = .ok (.aload_n 0, 1) := dk_42 (dk_at dksX7_parseValues_4 6 rfl rfl)
theorem dX7_parseValues_101 : decode cX7_parseValues 101 = .ok (.aload_n 1, 1) := dk_43 (dk_at dksX7_parseValues_4 7 rfl rfl)
theorem dX7_parseValues_102 : decode cX7_parseValues 102 = .ok (.ldc 202, 2) := dk_18 202 (dk_at dksX7_parseValues_4 8 rfl rfl)
theorem dX7_parseValues_104 : decode cX7_parseValues 104 = .ok (.aload_n 2, 1) := dk_44 (dk_at dksX7_parseValues_4 10 rfl rfl)
theorem dX7_parseValues_105 : decode cX7_parseValues 105 = .ok (.getfield 204, 3) := dk_180 0 204 (dk_at dksX7_parseValues_4 11 rfl rfl)
theorem dX7_parseValues_108 : decode cX7_parseValues 108 = .ok (.invokevirtual 207, 3) := dk_182 0 207 (dk_at dksX7_parseValues_4 14 rfl rfl)
theorem dX7_parseValues_111 : decode cX7_parseValues 111 = .ok (.istore_n 3, 1) := dk_62 (dk_at dksX7_parseValues_4 17 rfl rfl)
theorem dX7_parseValues_112 : decode cX7_parseValues 112 = .ok (.goto (-28), 3) := dk_167 255 228 (dk_at dksX7_parseValues_4 18 rfl rfl)
theorem dX7_parseValues_115 : decode cX7_parseValues 115 = .ok (.iload_n 3, 1) := dk_29 (dk_at dksX7_parseValues_4 21 rfl rfl)
theorem dX7_parseValues_116 : decode cX7_parseValues 116 = .ok (.ifCond .eq 18, 3) := dk_153 0 18 (dk_at dksX7_parseValues_5 0 rfl rfl)
theorem dX7_parseValues_119 : decode cX7_parseValues 119 = .ok (.aload_n 0, 1) := dk_42 (dk_at dksX7_parseValues_5 3 rfl rfl)
theorem dX7_parseValues_120 : decode cX7_parseValues 120 = .ok (.aload_n 1, 1) := dk_43 (dk_at dksX7_parseValues_5 4 rfl rfl)
theorem dX7_parseValues_121 : decode cX7_parseValues 121 = .ok (.ldc 211, 2) := dk_18 211 (dk_at dksX7_parseValues_5 5 rfl rfl)
theorem dX7_parseValues_123 : decode cX7_parseValues 123 = .ok (.aload_n 2, 1) := dk_44 (dk_at dksX7_parseValues_5 7 rfl rfl)
theorem dX7_parseValues_124 : decode cX7_parseValues 124 = .ok (.getfield 213, 3) := dk_180 0 213 (dk_at dksX7_parseValues_5 8 rfl rfl)
theorem dX7_parseValues_127 : decode cX7_parseValues 127 = .ok (.invokevirtual 207, 3) := dk_182 0 207 (dk_at dksX7_parseValues_5 11 rfl rfl)
theorem dX7_parseValues_130 : decode cX7_parseValues 130 = .ok (.istore_n 3, 1) := dk_62 (dk_at dksX7_parseValues_5 14 rfl rfl)
theorem dX7_parseValues_131 : decode cX7_parseValues 131 = .ok (.goto (-16), 3) := dk_167 255 240 (dk_at dksX7_parseValues_5 15 rfl rfl)
theorem dX7_parseValues_134 : decode cX7_parseValues 134 = .ok (.return_, 1) := dk_177 (dk_at dksX7_parseValues_5 18 rfl rfl)
abbrev cX7_expectPointer : ByteArray := prog_6_method_8_code
def yX7_expectPointer : MethodName := ⟨RX7, "expectPointer", "()I"⟩
def dkwX7_expectPointer_0 : List UInt8 := [42, 180, 0, 48, 178, 0, 74, 166, 0, 9, 42, 182, 0, 94, 2, 172, 42, 3, 16, 11, 182, 0, 105, 172]
abbrev dktX7_expectPointer_0 : List UInt8 := dkwX7_expectPointer_0 ++ []
theorem dksX7_expectPointer_0 : cX7_expectPointer.data.toList.drop 0 = dktX7_expectPointer_0 := by decide +kernel
theorem dX7_expectPointer_0 : decode cX7_expectPointer 0 = .ok (.aload_n 0, 1) := dk_42 (dk_at dksX7_expectPointer_0 0 rfl rfl)
theorem dX7_expectPointer_1 : decode cX7_expectPointer 1 = .ok (.getfield 48, 3) := dk_180 0 48 (dk_at dksX7_expectPointer_0 1 rfl rfl)
theorem dX7_expectPointer_4 : decode cX7_expectPointer 4 = .ok (.getstatic 74, 3) := dk_178 0 74 (dk_at dksX7_expectPointer_0 4 rfl rfl)
theorem dX7_expectPointer_7 : decode cX7_expectPointer 7 = .ok (.if_acmp .ne 9, 3) := dk_166 0 9 (dk_at dksX7_expectPointer_0 7 rfl rfl)
theorem dX7_expectPointer_10 : decode cX7_expectPointer 10 = .ok (.aload_n 0, 1) := dk_42 (dk_at dksX7_expectPointer_0 10 rfl rfl)
theorem dX7_expectPointer_11 : decode cX7_expectPointer 11 = .ok (.invokevirtual 94, 3) := dk_182 0 94 (dk_at dksX7_expectPointer_0 11 rfl rfl)
theorem dX7_expectPointer_14 : decode cX7_expectPointer 14 = .ok (.iconst (-1), 1) := dk_2 (dk_at dksX7_expectPointer_0 14 rfl rfl)
theorem dX7_expectPointer_15 : decode cX7_expectPointer 15 = .ok (.ireturn, 1) := dk_172 (dk_at dksX7_expectPointer_0 15 rfl rfl)
theorem dX7_expectPointer_16 : decode cX7_expectPointer 16 = .ok (.aload_n 0, 1) := dk_42 (dk_at dksX7_expectPointer_0 16 rfl rfl)
theorem dX7_expectPointer_17 : decode cX7_expectPointer 17 = .ok (.iconst 0, 1) := dk_3 (dk_at dksX7_expectPointer_0 17 rfl rfl)
theorem dX7_expectPointer_18 : decode cX7_expectPointer 18 = .ok (.bipush 11, 2) := dk_16 11 (dk_at dksX7_expectPointer_0 18 rfl rfl)
theorem dX7_expectPointer_20 : decode cX7_expectPointer 20 = .ok (.invokevirtual 105, 3) := dk_182 0 105 (dk_at dksX7_expectPointer_0 20 rfl rfl)
theorem dX7_expectPointer_23 : decode cX7_expectPointer 23 = .ok (.ireturn, 1) := dk_172 (dk_at dksX7_expectPointer_0 23 rfl rfl)
abbrev cX7_parsePointers : ByteArray := prog_6_method_14_code
def yX7_parsePointers : MethodName := ⟨RX7, "parsePointers", "(LInnRoad$Road;Ljava/lang/String;[I)Z"⟩
def dkwX7_parsePointers_2 : List UInt8 := [3, 182, 0, 101, 42, 44, 182, 0, 160, 54, 4, 45, 21, 4, 42, 182, 0, 187, 79, 42, 182, 0, 144, 172]
abbrev dktX7_parsePointers_2 : List UInt8 := dkwX7_parsePointers_2 ++ []
def dkwX7_parsePointers_1 : List UInt8 := [3, 16, 11, 184, 0, 97, 153, 0, 18, 43, 42, 180, 0, 80, 182, 0, 215, 153, 0, 7, 4, 167, 0, 4]
abbrev dktX7_parsePointers_1 : List UInt8 := dkwX7_parsePointers_1 ++ dktX7_parsePointers_2
def dkwX7_parsePointers_0 : List UInt8 := [42, 42, 44, 182, 0, 137, 182, 0, 101, 42, 42, 180, 0, 48, 178, 0, 65, 166, 0, 31, 42, 180, 0, 80]
abbrev dktX7_parsePointers_0 : List UInt8 := dkwX7_parsePointers_0 ++ dktX7_parsePointers_1
theorem dksX7_parsePointers_0 : cX7_parsePointers.data.toList.drop 0 = dktX7_parsePointers_0 := by decide +kernel
theorem dksX7_parsePointers_1 : cX7_parsePointers.data.toList.drop 24 = dktX7_parsePointers_1 := dk_seg dksX7_parsePointers_0 24 rfl rfl
theorem dksX7_parsePointers_2 : cX7_parsePointers.data.toList.drop 48 = dktX7_parsePointers_2 := dk_seg dksX7_parsePointers_1 24 rfl rfl
theorem dX7_parsePointers_0 : decode cX7_parsePointers 0 = .ok (.aload_n 0, 1) := dk_42 (dk_at dksX7_parsePointers_0 0 rfl rfl)
theorem dX7_parsePointers_1 : decode cX7_parsePointers 1 = .ok (.aload_n 0, 1) := dk_42 (dk_at dksX7_parsePointers_0 1 rfl rfl)
theorem dX7_parsePointers_2 : decode cX7_parsePointers 2 = .ok (.aload_n 2, 1) := dk_44 (dk_at dksX7_parsePointers_0 2 rfl rfl)
theorem dX7_parsePointers_3 : decode cX7_parsePointers 3 = .ok (.invokevirtual 137, 3) := dk_182 0 137 (dk_at dksX7_parsePointers_0 3 rfl rfl)
theorem dX7_parsePointers_6 : decode cX7_parsePointers 6 = .ok (.invokevirtual 101, 3) := dk_182 0 101 (dk_at dksX7_parsePointers_0 6 rfl rfl)
theorem dX7_parsePointers_9 : decode cX7_parsePointers 9 = .ok (.aload_n 0, 1) := dk_42 (dk_at dksX7_parsePointers_0 9 rfl rfl)
theorem dX7_parsePointers_10 : decode cX7_parsePointers 10 = .ok (.aload_n 0, 1) := dk_42 (dk_at dksX7_parsePointers_0 10 rfl rfl)
theorem dX7_parsePointers_11 : decode cX7_parsePointers 11 = .ok (.getfield 48, 3) := dk_180 0 48 (dk_at dksX7_parsePointers_0 11 rfl rfl)
theorem dX7_parsePointers_14 : decode cX7_parsePointers 14 = .ok (.getstatic 65, 3) := dk_178 0 65 (dk_at dksX7_parsePointers_0 14 rfl rfl)
theorem dX7_parsePointers_17 : decode cX7_parsePointers 17 = .ok (.if_acmp .ne 31, 3) := dk_166 0 31 (dk_at dksX7_parsePointers_0 17 rfl rfl)
theorem dX7_parsePointers_20 : decode cX7_parsePointers 20 = .ok (.aload_n 0, 1) := dk_42 (dk_at dksX7_parsePointers_0 20 rfl rfl)
theorem dX7_parsePointers_21 : decode cX7_parsePointers 21 = .ok (.getfield 80, 3) := dk_180 0 80 (dk_at dksX7_parsePointers_0 21 rfl rfl)
theorem dX7_parsePointers_24 : decode cX7_parsePointers 24 = .ok (.iconst 0, 1) := dk_3 (dk_at dksX7_parsePointers_1 0 rfl rfl)
theorem dX7_parsePointers_25 : decode cX7_parsePointers 25 = .ok (.bipush 11, 2) := dk_16 11 (dk_at dksX7_parsePointers_1 1 rfl rfl)
theorem dX7_parsePointers_27 : decode cX7_parsePointers 27 = .ok (.invokestatic 97, 3) := dk_184 0 97 (dk_at dksX7_parsePointers_1 3 rfl rfl)
theorem dX7_parsePointers_30 : decode cX7_parsePointers 30 = .ok (.ifCond .eq 18, 3) := dk_153 0 18 (dk_at dksX7_parsePointers_1 6 rfl rfl)
theorem dX7_parsePointers_33 : decode cX7_parsePointers 33 = .ok (.aload_n 1, 1) := dk_43 (dk_at dksX7_parsePointers_1 9 rfl rfl)
theorem dX7_parsePointers_34 : decode cX7_parsePointers 34 = .ok (.aload_n 0, 1) := dk_42 (dk_at dksX7_parsePointers_1 10 rfl rfl)
theorem dX7_parsePointers_35 : decode cX7_parsePointers 35 = .ok (.getfield 80, 3) := dk_180 0 80 (dk_at dksX7_parsePointers_1 11 rfl rfl)
theorem dX7_parsePointers_38 : decode cX7_parsePointers 38 = .ok (.invokevirtual 215, 3) := dk_182 0 215 (dk_at dksX7_parsePointers_1 14 rfl rfl)
theorem dX7_parsePointers_41 : decode cX7_parsePointers 41 = .ok (.ifCond .eq 7, 3) := dk_153 0 7 (dk_at dksX7_parsePointers_1 17 rfl rfl)
theorem dX7_parsePointers_44 : decode cX7_parsePointers 44 = .ok (.iconst 1, 1) := dk_4 (dk_at dksX7_parsePointers_1 20 rfl rfl)
theorem dX7_parsePointers_45 : decode cX7_parsePointers 45 = .ok (.goto 4, 3) := dk_167 0 4 (dk_at dksX7_parsePointers_1 21 rfl rfl)
theorem dX7_parsePointers_48 : decode cX7_parsePointers 48 = .ok (.iconst 0, 1) := dk_3 (dk_at dksX7_parsePointers_2 0 rfl rfl)
theorem dX7_parsePointers_49 : decode cX7_parsePointers 49 = .ok (.invokevirtual 101, 3) := dk_182 0 101 (dk_at dksX7_parsePointers_2 1 rfl rfl)
theorem dX7_parsePointers_52 : decode cX7_parsePointers 52 = .ok (.aload_n 0, 1) := dk_42 (dk_at dksX7_parsePointers_2 4 rfl rfl)
theorem dX7_parsePointers_53 : decode cX7_parsePointers 53 = .ok (.aload_n 2, 1) := dk_44 (dk_at dksX7_parsePointers_2 5 rfl rfl)
theorem dX7_parsePointers_54 : decode cX7_parsePointers 54 = .ok (.invokevirtual 160, 3) := dk_182 0 160 (dk_at dksX7_parsePointers_2 6 rfl rfl)
theorem dX7_parsePointers_57 : decode cX7_parsePointers 57 = .ok (.istore 4, 2) := dk_54 4 (dk_at dksX7_parsePointers_2 9 rfl rfl)
theorem dX7_parsePointers_59 : decode cX7_parsePointers 59 = .ok (.aload_n 3, 1) := dk_45 (dk_at dksX7_parsePointers_2 11 rfl rfl)
theorem dX7_parsePointers_60 : decode cX7_parsePointers 60 = .ok (.iload 4, 2) := dk_21 4 (dk_at dksX7_parsePointers_2 12 rfl rfl)
theorem dX7_parsePointers_62 : decode cX7_parsePointers 62 = .ok (.aload_n 0, 1) := dk_42 (dk_at dksX7_parsePointers_2 14 rfl rfl)
theorem dX7_parsePointers_63 : decode cX7_parsePointers 63 = .ok (.invokevirtual 187, 3) := dk_182 0 187 (dk_at dksX7_parsePointers_2 15 rfl rfl)
theorem dX7_parsePointers_66 : decode cX7_parsePointers 66 = .ok (.iastore, 1) := dk_79 (dk_at dksX7_parsePointers_2 18 rfl rfl)
theorem dX7_parsePointers_67 : decode cX7_parsePointers 67 = .ok (.aload_n 0, 1) := dk_42 (dk_at dksX7_parsePointers_2 19 rfl rfl)
theorem dX7_parsePointers_68 : decode cX7_parsePointers 68 = .ok (.invokevirtual 144, 3) := dk_182 0 144 (dk_at dksX7_parsePointers_2 20 rfl rfl)
theorem dX7_parsePointers_71 : decode cX7_parsePointers 71 = .ok (.ireturn, 1) := dk_172 (dk_at dksX7_parsePointers_2 23 rfl rfl)
theorem q100 : (Jvm.Cond.initialized "InnRoad$Parser") ∈ lw_all := lw_g (lw_at lw_m1 31 rfl) rfl
theorem q140 : (Jvm.Cond.fieldLinkNest "InnRoad$Parser" (204 : Nat) "InnRoad$Links" "next" "[I" "InnRoad") ∈ lw_tbl := lw_at lw_m1 71 rfl
theorem q144 : (Jvm.Cond.fieldLinkNest "InnRoad$Parser" (213 : Nat) "InnRoad$Links" "skip" "[I" "InnRoad") ∈ lw_tbl := lw_at lw_m1 75 rfl
theorem q148 : (Jvm.Cond.fieldLinkNest "InnRoad$Parser" (190 : Nat) "InnRoad$Links" "first" "I" "InnRoad") ∈ lw_tbl := lw_at lw_m1 79 rfl
theorem q152 : (Jvm.Cond.fieldLinkNest "InnRoad$Parser" (196 : Nat) "InnRoad$Links" "second" "I" "InnRoad") ∈ lw_tbl := lw_at lw_m1 83 rfl
theorem q156 : (Jvm.Cond.fieldLinkNest "InnRoad$Parser" (200 : Nat) "InnRoad$Links" "count" "I" "InnRoad") ∈ lw_tbl := lw_at lw_m1 87 rfl
theorem q173 : (Jvm.Cond.fieldLinkNest "InnRoad$Parser" (172 : Nat) "InnRoad$Road" "inns" "[LInnRoad$Inn;" "InnRoad") ∈ lw_tbl := lw_at lw_m1 104 rfl
theorem q176 : (Jvm.Cond.fieldLinkNest "InnRoad$Parser" (181 : Nat) "InnRoad$Road" "links" "LInnRoad$Links;" "InnRoad") ∈ lw_tbl := lw_at lw_m1 107 rfl
theorem q180 : (Jvm.Cond.fieldLinkNest "InnRoad$Parser" (141 : Nat) "InnRoad$Road" "range" "I" "InnRoad") ∈ lw_tbl := lw_at lw_m1 111 rfl
theorem q713 : (Jvm.Cond.selects "InnRoad$Parser" ({ cls := "java/lang/Object", name := "getClass", desc := "()Ljava/lang/Class;" } : Jvm.MethodName) ({ cls := "java/lang/Object", name := "getClass", desc := "()Ljava/lang/Class;" } : Jvm.MethodName)) ∈ lw_all := lw_g (lw_at lw_m3 164 rfl) rfl
theorem q787 : (Jvm.Cond.instantiable "InnRoad$Parser" (8 : Nat)) ∈ lw_all := lw_g (lw_at lw_m3 238 rfl) rfl
theorem q789 : (Jvm.Cond.instanceMethod ({ cls := "InnRoad$Parser", name := "<init>", desc := "([BI)V" } : Jvm.MethodName)) ∈ lw_all := lw_g (lw_at lw_m4 0 rfl) rfl
theorem q790 : (Jvm.Cond.code ({ cls := "InnRoad$Parser", name := "<init>", desc := "([BI)V" } : Jvm.MethodName) prog_6_method_1_code (3 : Nat) (Option.none : Option Jvm.ClassFile.FieldType)) ∈ lw_all := lw_g (lw_at lw_m4 1 rfl) rfl
theorem q791 : (Jvm.Cond.methodLink "InnRoad$Parser" (3 : Nat) ({ cls := "java/lang/Object", name := "<init>", desc := "()V" } : Jvm.MethodName)) ∈ lw_all := lw_g (lw_at lw_m4 2 rfl) rfl
theorem q792 : (Jvm.Cond.classLink "InnRoad$Parser" (9 : Nat) "java/util/HashMap") ∈ lw_all := lw_g (lw_at lw_m4 3 rfl) rfl
theorem q794 : (Jvm.Cond.methodLink "InnRoad$Parser" (11 : Nat) ({ cls := "java/util/HashMap", name := "<init>", desc := "()V" } : Jvm.MethodName)) ∈ lw_all := lw_g (lw_at lw_m4 5 rfl) rfl
theorem q824 : (Jvm.Cond.fieldLink "InnRoad$Parser" (18 : Nat) "InnRoad$Parser" "bytes" "[B") ∈ lw_all := lw_g (lw_at lw_m4 35 rfl) rfl
theorem q825 : (Jvm.Cond.fieldLink "InnRoad$Parser" (22 : Nat) "InnRoad$Parser" "length" "I") ∈ lw_all := lw_g (lw_at lw_m4 36 rfl) rfl
theorem q826 : (Jvm.Cond.fieldLink "InnRoad$Parser" (26 : Nat) "InnRoad$Parser" "at" "I") ∈ lw_all := lw_g (lw_at lw_m4 37 rfl) rfl
theorem q827 : (Jvm.Cond.fieldLink "InnRoad$Parser" (33 : Nat) "InnRoad$Parser" "start" "I") ∈ lw_all := lw_g (lw_at lw_m4 38 rfl) rfl
theorem q828 : (Jvm.Cond.fieldLink "InnRoad$Parser" (48 : Nat) "InnRoad$Parser" "kind" "LInnRoad$TokenKind;") ∈ lw_all := lw_g (lw_at lw_m4 39 rfl) rfl
theorem q829 : (Jvm.Cond.fieldLink "InnRoad$Parser" (38 : Nat) "InnRoad$Parser" "word" "Ljava/lang/String;") ∈ lw_all := lw_g (lw_at lw_m4 40 rfl) rfl
theorem q830 : (Jvm.Cond.fieldLink "InnRoad$Parser" (80 : Nat) "InnRoad$Parser" "number" "I") ∈ lw_all := lw_g (lw_at lw_m4 41 rfl) rfl
theorem q831 : (Jvm.Cond.fieldLink "InnRoad$Parser" (12 : Nat) "InnRoad$Parser" "latest" "Ljava/util/Map;") ∈ lw_all := lw_g (lw_at lw_m4 42 rfl) rfl
theorem q832 : (Jvm.Cond.laysFinal "InnRoad$Parser" "InnRoad$Parser" "bytes" "[B") ∈ lw_all := lw_g (lw_at lw_m4 43 rfl) rfl
theorem q833 : (Jvm.Cond.soleField "InnRoad$Parser" "bytes") ∈ lw_all := lw_g (lw_at lw_m4 44 rfl) rfl
theorem q834 : (Jvm.Cond.laysFinal "InnRoad$Parser" "InnRoad$Parser" "length" "I") ∈ lw_all := lw_g (lw_at lw_m4 45 rfl) rfl
theorem q835 : (Jvm.Cond.soleField "InnRoad$Parser" "length") ∈ lw_all := lw_g (lw_at lw_m4 46 rfl) rfl
theorem q836 : (Jvm.Cond.lays "InnRoad$Parser" "InnRoad$Parser" "at" "I") ∈ lw_all := lw_g (lw_at lw_m4 47 rfl) rfl
theorem q837 : (Jvm.Cond.soleField "InnRoad$Parser" "at") ∈ lw_all := lw_g (lw_at lw_m4 48 rfl) rfl
theorem q838 : (Jvm.Cond.lays "InnRoad$Parser" "InnRoad$Parser" "start" "I") ∈ lw_all := lw_g (lw_at lw_m4 49 rfl) rfl
theorem q839 : (Jvm.Cond.soleField "InnRoad$Parser" "start") ∈ lw_all := lw_g (lw_at lw_m4 50 rfl) rfl
theorem q840 : (Jvm.Cond.lays "InnRoad$Parser" "InnRoad$Parser" "kind" "LInnRoad$TokenKind;") ∈ lw_all := lw_g (lw_at lw_m4 51 rfl) rfl
theorem q841 : (Jvm.Cond.soleField "InnRoad$Parser" "kind") ∈ lw_all := lw_g (lw_at lw_m4 52 rfl) rfl
theorem q842 : (Jvm.Cond.lays "InnRoad$Parser" "InnRoad$Parser" "word" "Ljava/lang/String;") ∈ lw_all := lw_g (lw_at lw_m4 53 rfl) rfl
theorem q843 : (Jvm.Cond.soleField "InnRoad$Parser" "word") ∈ lw_all := lw_g (lw_at lw_m4 54 rfl) rfl
theorem q844 : (Jvm.Cond.lays "InnRoad$Parser" "InnRoad$Parser" "number" "I") ∈ lw_all := lw_g (lw_at lw_m4 55 rfl) rfl
theorem q845 : (Jvm.Cond.soleField "InnRoad$Parser" "number") ∈ lw_all := lw_g (lw_at lw_m4 56 rfl) rfl
theorem q846 : (Jvm.Cond.laysFinal "InnRoad$Parser" "InnRoad$Parser" "latest" "Ljava/util/Map;") ∈ lw_all := lw_g (lw_at lw_m4 57 rfl) rfl
theorem q847 : (Jvm.Cond.soleField "InnRoad$Parser" "latest") ∈ lw_all := lw_g (lw_at lw_m4 58 rfl) rfl
theorem q848 : (Jvm.Cond.superclass "InnRoad$Parser" "java/lang/Object") ∈ lw_all := lw_g (lw_at lw_m4 59 rfl) rfl
theorem q850 : (Jvm.Cond.instanceMethod ({ cls := "InnRoad$Parser", name := "parse", desc := "()LInnRoad$Road;" } : Jvm.MethodName)) ∈ lw_all := lw_g (lw_at lw_m4 61 rfl) rfl
theorem q851 : (Jvm.Cond.selects "InnRoad$Parser" ({ cls := "InnRoad$Parser", name := "parse", desc := "()LInnRoad$Road;" } : Jvm.MethodName) ({ cls := "InnRoad$Parser", name := "parse", desc := "()LInnRoad$Road;" } : Jvm.MethodName)) ∈ lw_all := lw_g (lw_at lw_m4 62 rfl) rfl
theorem q852 : (Jvm.Cond.code ({ cls := "InnRoad$Parser", name := "parse", desc := "()LInnRoad$Road;" } : Jvm.MethodName) prog_6_method_10_code (4 : Nat) (Option.some (Jvm.ClassFile.FieldType.object "InnRoad$Road"))) ∈ lw_all := lw_g (lw_at lw_m4 63 rfl) rfl
theorem q853 : (Jvm.Cond.classLink "InnRoad$Parser" (132 : Nat) "InnRoad$Road") ∈ lw_all := lw_g (lw_at lw_m4 64 rfl) rfl
theorem q854 : (Jvm.Cond.methodLinkNest "InnRoad$Parser" (134 : Nat) ({ cls := "InnRoad$Road", name := "<init>", desc := "()V" } : Jvm.MethodName) "InnRoad") ∈ lw_tbl := lw_at lw_m4 65 rfl
theorem q855 : (Jvm.Cond.methodLink "InnRoad$Parser" (94 : Nat) ({ cls := "InnRoad$Parser", name := "advance", desc := "()V" } : Jvm.MethodName)) ∈ lw_all := lw_g (lw_at lw_m4 66 rfl) rfl
theorem q856 : (Jvm.Cond.privateMethod ({ cls := "InnRoad$Parser", name := "advance", desc := "()V" } : Jvm.MethodName)) ∈ lw_tbl := lw_at lw_m4 67 rfl
theorem q857 : (Jvm.Cond.instanceMethod ({ cls := "InnRoad$Parser", name := "advance", desc := "()V" } : Jvm.MethodName)) ∈ lw_all := lw_g (lw_at lw_m4 68 rfl) rfl
theorem q858 : (Jvm.Cond.code ({ cls := "InnRoad$Parser", name := "advance", desc := "()V" } : Jvm.MethodName) prog_6_method_3_code (2 : Nat) (Option.none : Option Jvm.ClassFile.FieldType)) ∈ lw_all := lw_g (lw_at lw_m4 69 rfl) rfl
theorem q859 : (Jvm.Cond.methodLink "InnRoad$Parser" (29 : Nat) ({ cls := "InnRoad$Parser", name := "isByteBetween", desc := "(CC)Z" } : Jvm.MethodName)) ∈ lw_all := lw_g (lw_at lw_m4 70 rfl) rfl
theorem q860 : (Jvm.Cond.privateMethod ({ cls := "InnRoad$Parser", name := "isByteBetween", desc := "(CC)Z" } : Jvm.MethodName)) ∈ lw_tbl := lw_at lw_m4 71 rfl
theorem q861 : (Jvm.Cond.instanceMethod ({ cls := "InnRoad$Parser", name := "isByteBetween", desc := "(CC)Z" } : Jvm.MethodName)) ∈ lw_all := lw_g (lw_at lw_m4 72 rfl) rfl
theorem q862 : (Jvm.Cond.code ({ cls := "InnRoad$Parser", name := "isByteBetween", desc := "(CC)Z" } : Jvm.MethodName) prog_6_method_2_code (3 : Nat) (Option.some Jvm.ClassFile.FieldType.boolean)) ∈ lw_all := lw_g (lw_at lw_m4 73 rfl) rfl
theorem q863 : (Jvm.Cond.stringRef "InnRoad$Parser" (36 : Nat) "") ∈ lw_tbl := lw_at lw_m4 74 rfl
theorem q864 : (Jvm.Cond.fieldLink "InnRoad$Parser" (42 : Nat) "InnRoad$TokenKind" "END" "LInnRoad$TokenKind;") ∈ lw_all := lw_g (lw_at lw_m4 75 rfl) rfl
theorem q866 : (Jvm.Cond.fieldLink "InnRoad$Parser" (51 : Nat) "InnRoad$TokenKind" "WORD" "LInnRoad$TokenKind;") ∈ lw_all := lw_g (lw_at lw_m4 77 rfl) rfl
theorem q868 : (Jvm.Cond.classLink "InnRoad$Parser" (54 : Nat) "java/lang/StringBuilder") ∈ lw_all := lw_g (lw_at lw_m4 79 rfl) rfl
theorem q869 : (Jvm.Cond.methodLink "InnRoad$Parser" (56 : Nat) ({ cls := "java/lang/StringBuilder", name := "<init>", desc := "()V" } : Jvm.MethodName)) ∈ lw_all := lw_g (lw_at lw_m4 80 rfl) rfl
theorem q870 : (Jvm.Cond.methodLink "InnRoad$Parser" (57 : Nat) ({ cls := "java/lang/StringBuilder", name := "append", desc := "(C)Ljava/lang/StringBuilder;" } : Jvm.MethodName)) ∈ lw_all := lw_g (lw_at lw_m4 81 rfl) rfl
theorem q890 : (Jvm.Cond.methodLink "InnRoad$Parser" (61 : Nat) ({ cls := "java/lang/StringBuilder", name := "toString", desc := "()Ljava/lang/String;" } : Jvm.MethodName)) ∈ lw_all := lw_g (lw_at lw_m4 101 rfl) rfl
theorem q891 : (Jvm.Cond.fieldLink "InnRoad$Parser" (65 : Nat) "InnRoad$TokenKind" "NUMBER" "LInnRoad$TokenKind;") ∈ lw_all := lw_g (lw_at lw_m4 102 rfl) rfl
theorem q893 : (Jvm.Cond.methodLink "InnRoad$Parser" (68 : Nat) ({ cls := "InnRoad$Parser", name := "readNumber", desc := "()V" } : Jvm.MethodName)) ∈ lw_all := lw_g (lw_at lw_m4 104 rfl) rfl
theorem q894 : (Jvm.Cond.privateMethod ({ cls := "InnRoad$Parser", name := "readNumber", desc := "()V" } : Jvm.MethodName)) ∈ lw_tbl := lw_at lw_m4 105 rfl
theorem q895 : (Jvm.Cond.instanceMethod ({ cls := "InnRoad$Parser", name := "readNumber", desc := "()V" } : Jvm.MethodName)) ∈ lw_all := lw_g (lw_at lw_m4 106 rfl) rfl
theorem q896 : (Jvm.Cond.code ({ cls := "InnRoad$Parser", name := "readNumber", desc := "()V" } : Jvm.MethodName) prog_6_method_4_code (2 : Nat) (Option.none : Option Jvm.ClassFile.FieldType)) ∈ lw_all := lw_g (lw_at lw_m4 107 rfl) rfl
theorem q897 : (Jvm.Cond.fieldLink "InnRoad$Parser" (71 : Nat) "InnRoad$TokenKind" "SEMICOLON" "LInnRoad$TokenKind;") ∈ lw_all := lw_g (lw_at lw_m4 108 rfl) rfl
theorem q899 : (Jvm.Cond.fieldLink "InnRoad$Parser" (74 : Nat) "InnRoad$TokenKind" "MINUS" "LInnRoad$TokenKind;") ∈ lw_all := lw_g (lw_at lw_m4 110 rfl) rfl
theorem q901 : (Jvm.Cond.fieldLink "InnRoad$Parser" (77 : Nat) "InnRoad$TokenKind" "OTHER" "LInnRoad$TokenKind;") ∈ lw_all := lw_g (lw_at lw_m4 112 rfl) rfl
theorem q903 : (Jvm.Cond.stringRef "InnRoad$Parser" (135 : Nat) "road") ∈ lw_tbl := lw_at lw_m4 114 rfl
theorem q904 : (Jvm.Cond.methodLink "InnRoad$Parser" (137 : Nat) ({ cls := "InnRoad$Parser", name := "accepts", desc := "(Ljava/lang/String;)Z" } : Jvm.MethodName)) ∈ lw_all := lw_g (lw_at lw_m4 115 rfl) rfl
theorem q905 : (Jvm.Cond.privateMethod ({ cls := "InnRoad$Parser", name := "accepts", desc := "(Ljava/lang/String;)Z" } : Jvm.MethodName)) ∈ lw_tbl := lw_at lw_m4 116 rfl
theorem q906 : (Jvm.Cond.instanceMethod ({ cls := "InnRoad$Parser", name := "accepts", desc := "(Ljava/lang/String;)Z" } : Jvm.MethodName)) ∈ lw_all := lw_g (lw_at lw_m4 117 rfl) rfl
theorem q907 : (Jvm.Cond.code ({ cls := "InnRoad$Parser", name := "accepts", desc := "(Ljava/lang/String;)Z" } : Jvm.MethodName) prog_6_method_6_code (3 : Nat) (Option.some Jvm.ClassFile.FieldType.boolean)) ∈ lw_all := lw_g (lw_at lw_m4 118 rfl) rfl
theorem q908 : (Jvm.Cond.methodLink "InnRoad$Parser" (88 : Nat) ({ cls := "java/lang/String", name := "equals", desc := "(Ljava/lang/Object;)Z" } : Jvm.MethodName)) ∈ lw_all := lw_g (lw_at lw_m4 119 rfl) rfl
theorem q916 : (Jvm.Cond.methodLink "InnRoad$Parser" (101 : Nat) ({ cls := "InnRoad$Parser", name := "require", desc := "(Z)V" } : Jvm.MethodName)) ∈ lw_all := lw_g (lw_at lw_m4 127 rfl) rfl
theorem q917 : (Jvm.Cond.privateMethod ({ cls := "InnRoad$Parser", name := "require", desc := "(Z)V" } : Jvm.MethodName)) ∈ lw_tbl := lw_at lw_m4 128 rfl
theorem q918 : (Jvm.Cond.instanceMethod ({ cls := "InnRoad$Parser", name := "require", desc := "(Z)V" } : Jvm.MethodName)) ∈ lw_all := lw_g (lw_at lw_m4 129 rfl) rfl
theorem q919 : (Jvm.Cond.code ({ cls := "InnRoad$Parser", name := "require", desc := "(Z)V" } : Jvm.MethodName) prog_6_method_5_code (2 : Nat) (Option.none : Option Jvm.ClassFile.FieldType)) ∈ lw_all := lw_g (lw_at lw_m4 130 rfl) rfl
theorem q920 : (Jvm.Cond.classLink "InnRoad$Parser" (83 : Nat) "InnRoad$TokenException") ∈ lw_all := lw_g (lw_at lw_m4 131 rfl) rfl
theorem q929 : (Jvm.Cond.methodLink "InnRoad$Parser" (85 : Nat) ({ cls := "InnRoad$TokenException", name := "<init>", desc := "(I)V" } : Jvm.MethodName)) ∈ lw_all := lw_g (lw_at lw_m4 140 rfl) rfl
theorem q940 : (Jvm.Cond.methodLink "InnRoad$Parser" (105 : Nat) ({ cls := "InnRoad$Parser", name := "expectNumber", desc := "(II)I" } : Jvm.MethodName)) ∈ lw_all := lw_g (lw_at lw_m4 151 rfl) rfl
theorem q941 : (Jvm.Cond.privateMethod ({ cls := "InnRoad$Parser", name := "expectNumber", desc := "(II)I" } : Jvm.MethodName)) ∈ lw_tbl := lw_at lw_m4 152 rfl
theorem q942 : (Jvm.Cond.instanceMethod ({ cls := "InnRoad$Parser", name := "expectNumber", desc := "(II)I" } : Jvm.MethodName)) ∈ lw_all := lw_g (lw_at lw_m4 153 rfl) rfl
theorem q943 : (Jvm.Cond.code ({ cls := "InnRoad$Parser", name := "expectNumber", desc := "(II)I" } : Jvm.MethodName) prog_6_method_7_code (4 : Nat) (Option.some Jvm.ClassFile.FieldType.int)) ∈ lw_all := lw_g (lw_at lw_m4 154 rfl) rfl
theorem q944 : (Jvm.Cond.methodLinkNest "InnRoad$Parser" (97 : Nat) ({ cls := "InnRoad", name := "isBetween", desc := "(III)Z" } : Jvm.MethodName) "InnRoad") ∈ lw_tbl := lw_at lw_m4 155 rfl
theorem q947 : (Jvm.Cond.methodLink "InnRoad$Parser" (144 : Nat) ({ cls := "InnRoad$Parser", name := "parseSeparator", desc := "()Z" } : Jvm.MethodName)) ∈ lw_all := lw_g (lw_at lw_m4 158 rfl) rfl
theorem q948 : (Jvm.Cond.privateMethod ({ cls := "InnRoad$Parser", name := "parseSeparator", desc := "()Z" } : Jvm.MethodName)) ∈ lw_tbl := lw_at lw_m4 159 rfl
theorem q949 : (Jvm.Cond.instanceMethod ({ cls := "InnRoad$Parser", name := "parseSeparator", desc := "()Z" } : Jvm.MethodName)) ∈ lw_all := lw_g (lw_at lw_m4 160 rfl) rfl
theorem q950 : (Jvm.Cond.code ({ cls := "InnRoad$Parser", name := "parseSeparator", desc := "()Z" } : Jvm.MethodName) prog_6_method_11_code (1 : Nat) (Option.some Jvm.ClassFile.FieldType.boolean)) ∈ lw_all := lw_g (lw_at lw_m4 161 rfl) rfl
theorem q951 : (Jvm.Cond.stringRef "InnRoad$Parser" (148 : Nat) "inn") ∈ lw_tbl := lw_at lw_m4 162 rfl
theorem q952 : (Jvm.Cond.methodLink "InnRoad$Parser" (150 : Nat) ({ cls := "InnRoad$Parser", name := "parseInn", desc := "(LInnRoad$Road;)V" } : Jvm.MethodName)) ∈ lw_all := lw_g (lw_at lw_m4 163 rfl) rfl
theorem q953 : (Jvm.Cond.privateMethod ({ cls := "InnRoad$Parser", name := "parseInn", desc := "(LInnRoad$Road;)V" } : Jvm.MethodName)) ∈ lw_tbl := lw_at lw_m4 164 rfl
theorem q954 : (Jvm.Cond.instanceMethod ({ cls := "InnRoad$Parser", name := "parseInn", desc := "(LInnRoad$Road;)V" } : Jvm.MethodName)) ∈ lw_all := lw_g (lw_at lw_m4 165 rfl) rfl
theorem q955 : (Jvm.Cond.code ({ cls := "InnRoad$Parser", name := "parseInn", desc := "(LInnRoad$Road;)V" } : Jvm.MethodName) prog_6_method_12_code (6 : Nat) (Option.none : Option Jvm.ClassFile.FieldType)) ∈ lw_all := lw_g (lw_at lw_m4 166 rfl) rfl
theorem q956 : (Jvm.Cond.methodLink "InnRoad$Parser" (160 : Nat) ({ cls := "InnRoad$Parser", name := "expectIndex", desc := "(Ljava/lang/String;)I" } : Jvm.MethodName)) ∈ lw_all := lw_g (lw_at lw_m4 167 rfl) rfl
theorem q957 : (Jvm.Cond.privateMethod ({ cls := "InnRoad$Parser", name := "expectIndex", desc := "(Ljava/lang/String;)I" } : Jvm.MethodName)) ∈ lw_tbl := lw_at lw_m4 168 rfl
theorem q958 : (Jvm.Cond.instanceMethod ({ cls := "InnRoad$Parser", name := "expectIndex", desc := "(Ljava/lang/String;)I" } : Jvm.MethodName)) ∈ lw_all := lw_g (lw_at lw_m4 169 rfl) rfl
theorem q959 : (Jvm.Cond.code ({ cls := "InnRoad$Parser", name := "expectIndex", desc := "(Ljava/lang/String;)I" } : Jvm.MethodName) prog_6_method_9_code (4 : Nat) (Option.some Jvm.ClassFile.FieldType.int)) ∈ lw_all := lw_g (lw_at lw_m4 170 rfl) rfl
theorem q960 : (Jvm.Cond.interfaceEntry "InnRoad$Parser" (109 : Nat)) ∈ lw_tbl := lw_at lw_m4 171 rfl
theorem q961 : (Jvm.Cond.methodLink "InnRoad$Parser" (109 : Nat) ({ cls := "java/util/Map", name := "containsKey", desc := "(Ljava/lang/Object;)Z" } : Jvm.MethodName)) ∈ lw_all := lw_g (lw_at lw_m4 172 rfl) rfl
theorem q985 : (Jvm.Cond.selects "InnRoad$Parser" ({ cls := "java/lang/Object", name := "hashCode", desc := "()I" } : Jvm.MethodName) ({ cls := "java/lang/Object", name := "hashCode", desc := "()I" } : Jvm.MethodName)) ∈ lw_all := lw_g (lw_at lw_m4 196 rfl) rfl
theorem q1078 : (Jvm.Cond.selects "InnRoad$Parser" ({ cls := "java/lang/Object", name := "equals", desc := "(Ljava/lang/Object;)Z" } : Jvm.MethodName) ({ cls := "java/lang/Object", name := "equals", desc := "(Ljava/lang/Object;)Z" } : Jvm.MethodName)) ∈ lw_all := lw_g (lw_at lw_m5 49 rfl) rfl
theorem q1335 : (Jvm.Cond.interfaceEntry "InnRoad$Parser" (114 : Nat)) ∈ lw_tbl := lw_at lw_m6 66 rfl
theorem q1336 : (Jvm.Cond.methodLink "InnRoad$Parser" (114 : Nat) ({ cls := "java/util/Map", name := "get", desc := "(Ljava/lang/Object;)Ljava/lang/Object;" } : Jvm.MethodName)) ∈ lw_all := lw_g (lw_at lw_m6 67 rfl) rfl
theorem q1344 : (Jvm.Cond.classLink "InnRoad$Parser" (118 : Nat) "java/lang/Integer") ∈ lw_all := lw_g (lw_at lw_m6 75 rfl) rfl
theorem q1345 : (Jvm.Cond.methodLink "InnRoad$Parser" (120 : Nat) ({ cls := "java/lang/Integer", name := "intValue", desc := "()I" } : Jvm.MethodName)) ∈ lw_all := lw_g (lw_at lw_m6 76 rfl) rfl
theorem q1346 : (Jvm.Cond.methodLink "InnRoad$Parser" (124 : Nat) ({ cls := "java/lang/Integer", name := "valueOf", desc := "(I)Ljava/lang/Integer;" } : Jvm.MethodName)) ∈ lw_all := lw_g (lw_at lw_m6 77 rfl) rfl
theorem q1347 : (Jvm.Cond.interfaceEntry "InnRoad$Parser" (128 : Nat)) ∈ lw_tbl := lw_at lw_m6 78 rfl
theorem q1348 : (Jvm.Cond.methodLink "InnRoad$Parser" (128 : Nat) ({ cls := "java/util/Map", name := "put", desc := "(Ljava/lang/Object;Ljava/lang/Object;)Ljava/lang/Object;" } : Jvm.MethodName)) ∈ lw_all := lw_g (lw_at lw_m6 79 rfl) rfl
theorem q1492 : (Jvm.Cond.methodLink "InnRoad$Parser" (164 : Nat) ({ cls := "InnRoad$Road", name := "innAtMile", desc := "(I)I" } : Jvm.MethodName)) ∈ lw_all := lw_g (lw_at lw_m6 223 rfl) rfl
theorem q1496 : (Jvm.Cond.stringRef "InnRoad$Parser" (168 : Nat) "closed") ∈ lw_tbl := lw_at lw_m6 227 rfl
theorem q1497 : (Jvm.Cond.stringRef "InnRoad$Parser" (170 : Nat) "letters") ∈ lw_tbl := lw_at lw_m6 228 rfl
theorem q1498 : (Jvm.Cond.classLink "InnRoad$Parser" (176 : Nat) "InnRoad$Inn") ∈ lw_all := lw_g (lw_at lw_m6 229 rfl) rfl
theorem q1499 : (Jvm.Cond.methodLink "InnRoad$Parser" (178 : Nat) ({ cls := "InnRoad$Inn", name := "<init>", desc := "(IZI)V" } : Jvm.MethodName)) ∈ lw_all := lw_g (lw_at lw_m6 230 rfl) rfl
theorem q1500 : (Jvm.Cond.methodLink "InnRoad$Parser" (154 : Nat) ({ cls := "InnRoad$Road", name := "rebuild", desc := "()I" } : Jvm.MethodName)) ∈ lw_all := lw_g (lw_at lw_m6 231 rfl) rfl
theorem q1501 : (Jvm.Cond.methodLink "InnRoad$Parser" (157 : Nat) ({ cls := "InnRoad$Parser", name := "parseValues", desc := "(LInnRoad$Road;)V" } : Jvm.MethodName)) ∈ lw_all := lw_g (lw_at lw_m6 232 rfl) rfl
theorem q1502 : (Jvm.Cond.privateMethod ({ cls := "InnRoad$Parser", name := "parseValues", desc := "(LInnRoad$Road;)V" } : Jvm.MethodName)) ∈ lw_tbl := lw_at lw_m6 233 rfl
theorem q1503 : (Jvm.Cond.instanceMethod ({ cls := "InnRoad$Parser", name := "parseValues", desc := "(LInnRoad$Road;)V" } : Jvm.MethodName)) ∈ lw_all := lw_g (lw_at lw_m6 234 rfl) rfl
theorem q1504 : (Jvm.Cond.code ({ cls := "InnRoad$Parser", name := "parseValues", desc := "(LInnRoad$Road;)V" } : Jvm.MethodName) prog_6_method_13_code (4 : Nat) (Option.none : Option Jvm.ClassFile.FieldType)) ∈ lw_all := lw_g (lw_at lw_m6 235 rfl) rfl
theorem q1505 : (Jvm.Cond.stringRef "InnRoad$Parser" (185 : Nat) "first") ∈ lw_tbl := lw_at lw_m6 236 rfl
theorem q1506 : (Jvm.Cond.methodLink "InnRoad$Parser" (187 : Nat) ({ cls := "InnRoad$Parser", name := "expectPointer", desc := "()I" } : Jvm.MethodName)) ∈ lw_all := lw_g (lw_at lw_m6 237 rfl) rfl
theorem q1507 : (Jvm.Cond.privateMethod ({ cls := "InnRoad$Parser", name := "expectPointer", desc := "()I" } : Jvm.MethodName)) ∈ lw_tbl := lw_at lw_m6 238 rfl
theorem q1508 : (Jvm.Cond.instanceMethod ({ cls := "InnRoad$Parser", name := "expectPointer", desc := "()I" } : Jvm.MethodName)) ∈ lw_all := lw_g (lw_at lw_m6 239 rfl) rfl
theorem q1509 : (Jvm.Cond.code ({ cls := "InnRoad$Parser", name := "expectPointer", desc := "()I" } : Jvm.MethodName) prog_6_method_8_code (1 : Nat) (Option.some Jvm.ClassFile.FieldType.int)) ∈ lw_all := lw_g (lw_at lw_m7 0 rfl) rfl
theorem q1510 : (Jvm.Cond.stringRef "InnRoad$Parser" (194 : Nat) "second") ∈ lw_tbl := lw_at lw_m7 1 rfl
theorem q1511 : (Jvm.Cond.stringRef "InnRoad$Parser" (198 : Nat) "count") ∈ lw_tbl := lw_at lw_m7 2 rfl
theorem q1512 : (Jvm.Cond.stringRef "InnRoad$Parser" (202 : Nat) "next") ∈ lw_tbl := lw_at lw_m7 3 rfl
theorem q1513 : (Jvm.Cond.methodLink "InnRoad$Parser" (207 : Nat) ({ cls := "InnRoad$Parser", name := "parsePointers", desc := "(LInnRoad$Road;Ljava/lang/String;[I)Z" } : Jvm.MethodName)) ∈ lw_all := lw_g (lw_at lw_m7 4 rfl) rfl
theorem q1514 : (Jvm.Cond.privateMethod ({ cls := "InnRoad$Parser", name := "parsePointers", desc := "(LInnRoad$Road;Ljava/lang/String;[I)Z" } : Jvm.MethodName)) ∈ lw_tbl := lw_at lw_m7 5 rfl
theorem q1515 : (Jvm.Cond.instanceMethod ({ cls := "InnRoad$Parser", name := "parsePointers", desc := "(LInnRoad$Road;Ljava/lang/String;[I)Z" } : Jvm.MethodName)) ∈ lw_all := lw_g (lw_at lw_m7 6 rfl) rfl
theorem q1516 : (Jvm.Cond.code ({ cls := "InnRoad$Parser", name := "parsePointers", desc := "(LInnRoad$Road;Ljava/lang/String;[I)Z" } : Jvm.MethodName) prog_6_method_14_code (5 : Nat) (Option.some Jvm.ClassFile.FieldType.boolean)) ∈ lw_all := lw_g (lw_at lw_m7 7 rfl) rfl
theorem q1517 : (Jvm.Cond.methodLink "InnRoad$Parser" (215 : Nat) ({ cls := "InnRoad$Road", name := "hasInn", desc := "(I)Z" } : Jvm.MethodName)) ∈ lw_all := lw_g (lw_at lw_m7 8 rfl) rfl
theorem q1518 : (Jvm.Cond.stringRef "InnRoad$Parser" (211 : Nat) "skip") ∈ lw_tbl := lw_at lw_m7 9 rfl
theorem q2919 : (Jvm.Cond.castable "InnRoad$Parser" "java/lang/Object") ∈ lw_tbl := lw_at lw_m12 210 rfl
theorem in_X7 : ∀ w ∈ wsX70, w ∈ lw_all := lw_in wsX70 [832, 834, 836, 838, 840, 842, 844, 846] (by decide +kernel) (by decide +kernel)
