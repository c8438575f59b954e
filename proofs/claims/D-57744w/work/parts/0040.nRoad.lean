/-! InnRoad$Road -/
set_option maxRecDepth 100000
def RX2 : String := "InnRoad$Road"
def TX2 : u_T := fun k => match k with
  | 0 => ("InnRoad$Road", "inns", "[LInnRoad$Inn;", true)
  | 1 => ("InnRoad$Road", "links", "LInnRoad$Links;", true)
  | 2 => ("InnRoad$Road", "range", "I", false)
  | 3 => ("InnRoad$Road", "stagesRidden", "I", false)
  | _ => ("InnRoad$Road", "lettersDelivered", "I", false)
def tyX2 : Nat → FieldType := fun k => match k with
  | 0 => .array (.object "InnRoad$Inn")
  | 1 => .object "InnRoad$Links"
  | 2 => .int
  | 3 => .int
  | _ => .int
abbrev wsX20 : List Cond := u_ws RX2 TX2 5
theorem nmX2 : ∀ a, a < 5 → ∀ b, b < 5 → a ≠ b → (TX2 a).2.1 ≠ (TX2 b).2.1 := by decide +kernel
theorem tyX2_ok : ∀ k, k < 5 → parseFieldDescriptor (TX2 k).2.2.1 = some (tyX2 k) := by decide +kernel
abbrev cX2_init : ByteArray := prog_8_method_1_code
def yX2_init : MethodName := ⟨RX2, "<init>", "()V"⟩
def dkwX2_init_1 : List UInt8 := [177]
abbrev dktX2_init_1 : List UInt8 := dkwX2_init_1 ++ []
def dkwX2_init_0 : List UInt8 := [42, 183, 0, 3, 42, 16, 12, 189, 0, 9, 181, 0, 11, 42, 187, 0, 17, 89, 183, 0, 19, 181, 0, 20]
abbrev dktX2_init_0 : List UInt8 := dkwX2_init_0 ++ dktX2_init_1
theorem dksX2_init_0 : cX2_init.data.toList.drop 0 = dktX2_init_0 := by decide +kernel
theorem dksX2_init_1 : cX2_init.data.toList.drop 24 = dktX2_init_1 := dk_seg dksX2_init_0 24 rfl rfl
theorem dX2_init_0 : decode cX2_init 0 = .ok (.aload_n 0, 1) := dk_42 (dk_at dksX2_init_0 0 rfl rfl)
theorem dX2_init_1 : decode cX2_init 1 = .ok (.invokespecial 3, 3) := dk_183 0 3 (dk_at dksX2_init_0 1 rfl rfl)
theorem dX2_init_4 : decode cX2_init 4 = .ok (.aload_n 0, 1) := dk_42 (dk_at dksX2_init_0 4 rfl rfl)
theorem dX2_init_5 : decode cX2_init 5 = .ok (.bipush 12, 2) := dk_16 12 (dk_at dksX2_init_0 5 rfl rfl)
theorem dX2_init_7 : decode cX2_init 7 = .ok (.anewarray 9, 3) := dk_189 0 9 (dk_at dksX2_init_0 7 rfl rfl)
theorem dX2_init_10 : decode cX2_init 10 = .ok (.putfield 11, 3) := dk_181 0 11 (dk_at dksX2_init_0 10 rfl rfl)
theorem dX2_init_13 : decode cX2_init 13 = .ok (.aload_n 0, 1) := dk_42 (dk_at dksX2_init_0 13 rfl rfl)
theorem dX2_init_14 : decode cX2_init 14 = .ok (.new 17, 3) := dk_187 0 17 (dk_at dksX2_init_0 14 rfl rfl)
theorem dX2_init_17 : decode cX2_init 17 = .ok (.dup, 1) := dk_89 (dk_at dksX2_init_0 17 rfl rfl)
theorem dX2_init_18 : decode cX2_init 18 = .ok (.invokespecial 19, 3) := dk_183 0 19 (dk_at dksX2_init_0 18 rfl rfl)
theorem dX2_init_21 : decode cX2_init 21 = .ok (.putfield 20, 3) := dk_181 0 20 (dk_at dksX2_init_0 21 rfl rfl)
theorem dX2_init_24 : decode cX2_init 24 = .ok (.return_, 1) := dk_177 (dk_at dksX2_init_1 0 rfl rfl)
abbrev cX2_rebuild : ByteArray := prog_8_method_15_code
def yX2_rebuild : MethodName := ⟨RX2, "rebuild", "()I"⟩
def dkwX2_rebuild_0 : List UInt8 := [42, 182, 0, 114, 76, 42, 43, 182, 0, 118, 61, 42, 180, 0, 20, 43, 182, 0, 31, 28, 172]
abbrev dktX2_rebuild_0 : List UInt8 := dkwX2_rebuild_0 ++ []
theorem dksX2_rebuild_0 : cX2_rebuild.data.toList.drop 0 = dktX2_rebuild_0 := by decide +kernel
theorem dX2_rebuild_0 : decode cX2_rebuild 0 = .ok (.aload_n 0, 1) := dk_42 (dk_at dksX2_rebuild_0 0 rfl rfl)
theorem dX2_rebuild_1 : decode cX2_rebuild 1 = .ok (.invokevirtual 114, 3) := dk_182 0 114 (dk_at dksX2_rebuild_0 1 rfl rfl)
theorem dX2_rebuild_4 : decode cX2_rebuild 4 = .ok (.astore_n 1, 1) := dk_76 (dk_at dksX2_rebuild_0 4 rfl rfl)
theorem dX2_rebuild_5 : decode cX2_rebuild 5 = .ok (.aload_n 0, 1) := dk_42 (dk_at dksX2_rebuild_0 5 rfl rfl)
theorem dX2_rebuild_6 : decode cX2_rebuild 6 = .ok (.aload_n 1, 1) := dk_43 (dk_at dksX2_rebuild_0 6 rfl rfl)
theorem dX2_rebuild_7 : decode cX2_rebuild 7 = .ok (.invokevirtual 118, 3) := dk_182 0 118 (dk_at dksX2_rebuild_0 7 rfl rfl)
theorem dX2_rebuild_10 : decode cX2_rebuild 10 = .ok (.istore_n 2, 1) := dk_61 (dk_at dksX2_rebuild_0 10 rfl rfl)
theorem dX2_rebuild_11 : decode cX2_rebuild 11 = .ok (.aload_n 0, 1) := dk_42 (dk_at dksX2_rebuild_0 11 rfl rfl)
theorem dX2_rebuild_12 : decode cX2_rebuild 12 = .ok (.getfield 20, 3) := dk_180 0 20 (dk_at dksX2_rebuild_0 12 rfl rfl)
theorem dX2_rebuild_15 : decode cX2_rebuild 15 = .ok (.aload_n 1, 1) := dk_43 (dk_at dksX2_rebuild_0 15 rfl rfl)
theorem dX2_rebuild_16 : decode cX2_rebuild 16 = .ok (.invokevirtual 31, 3) := dk_182 0 31 (dk_at dksX2_rebuild_0 16 rfl rfl)
theorem dX2_rebuild_19 : decode cX2_rebuild 19 = .ok (.iload_n 2, 1) := dk_28 (dk_at dksX2_rebuild_0 19 rfl rfl)
theorem dX2_rebuild_20 : decode cX2_rebuild 20 = .ok (.ireturn, 1) := dk_172 (dk_at dksX2_rebuild_0 20 rfl rfl)
abbrev cX2_correctLinks : ByteArray := prog_8_method_10_code
def yX2_correctLinks : MethodName := ⟨RX2, "correctLinks", "()LInnRoad$Links;"⟩
def dkwX2_correctLinks_6 : List UInt8 := [184, 0, 86, 192, 0, 69, 182, 0, 71, 79, 132, 3, 1, 167, 255, 173, 43, 176]
abbrev dktX2_correctLinks_6 : List UInt8 := dkwX2_correctLinks_6 ++ []
def dkwX2_correctLinks_5 : List UInt8 := [180, 0, 103, 44, 29, 185, 0, 65, 2, 0, 192, 0, 69, 182, 0, 71, 44, 29, 5, 96, 2, 184, 0, 74]
abbrev dktX2_correctLinks_5 : List UInt8 := dkwX2_correctLinks_5 ++ dktX2_correctLinks_6
def dkwX2_correctLinks_4 : List UInt8 := [182, 0, 71, 44, 29, 4, 96, 2, 184, 0, 74, 184, 0, 86, 192, 0, 69, 182, 0, 71, 79, 43]
abbrev dktX2_correctLinks_4 : List UInt8 := dkwX2_correctLinks_4 ++ dktX2_correctLinks_5
def dkwX2_correctLinks_3 : List UInt8 := [185, 0, 59, 1, 0, 162, 0, 79, 43, 180, 0, 99, 44, 29, 185, 0, 65, 2, 0, 192, 0, 69]
abbrev dktX2_correctLinks_3 : List UInt8 := dkwX2_correctLinks_3 ++ dktX2_correctLinks_4
def dkwX2_correctLinks_2 : List UInt8 := [182, 0, 71, 181, 0, 93, 43, 44, 185, 0, 59, 1, 0, 181, 0, 96, 3, 62, 29, 44]
abbrev dktX2_correctLinks_2 : List UInt8 := dkwX2_correctLinks_2 ++ dktX2_correctLinks_3
def dkwX2_correctLinks_1 : List UInt8 := [192, 0, 69, 182, 0, 71, 181, 0, 90, 43, 44, 4, 2, 184, 0, 74, 184, 0, 86, 192, 0, 69]
abbrev dktX2_correctLinks_1 : List UInt8 := dkwX2_correctLinks_1 ++ dktX2_correctLinks_2
def dkwX2_correctLinks_0 : List UInt8 := [187, 0, 17, 89, 183, 0, 19, 76, 42, 182, 0, 82, 77, 43, 44, 3, 2, 184, 0, 74, 184, 0, 86]
abbrev dktX2_correctLinks_0 : List UInt8 := dkwX2_correctLinks_0 ++ dktX2_correctLinks_1
theorem dksX2_correctLinks_0 : cX2_correctLinks.data.toList.drop 0 = dktX2_correctLinks_0 := by decide +kernel
theorem dksX2_correctLinks_1 : cX2_correctLinks.data.toList.drop 23 = dktX2_correctLinks_1 := dk_seg dksX2_correctLinks_0 23 rfl rfl
theorem dksX2_correctLinks_2 : cX2_correctLinks.data.toList.drop 45 = dktX2_correctLinks_2 := dk_seg dksX2_correctLinks_1 22 rfl rfl
theorem dksX2_correctLinks_3 : cX2_correctLinks.data.toList.drop 65 = dktX2_correctLinks_3 := dk_seg dksX2_correctLinks_2 20 rfl rfl
theorem dksX2_correctLinks_4 : cX2_correctLinks.data.toList.drop 87 = dktX2_correctLinks_4 := dk_seg dksX2_correctLinks_3 22 rfl rfl
theorem dksX2_correctLinks_5 : cX2_correctLinks.data.toList.drop 109 = dktX2_correctLinks_5 := dk_seg dksX2_correctLinks_4 22 rfl rfl
theorem dksX2_correctLinks_6 : cX2_correctLinks.data.toList.drop 133 = dktX2_correctLinks_6 := dk_seg dksX2_correctLinks_5 24 rfl rfl
theorem dX2_correctLinks_0 : decode cX2_correctLinks 0 = .ok (.new 17, 3) := dk_187 0 17 (dk_at dksX2_correctLinks_0 0 rfl rfl)
theorem dX2_correctLinks_3 : decode cX2_correctLinks 3 = .ok (.dup, 1) := dk_89 (dk_at dksX2_correctLinks_0 3 rfl rfl)
theorem dX2_correctLinks_4 : decode cX2_correctLinks 4 = .ok (.invokespecial 19, 3) := dk_183 0 19 (dk_at dksX2_correctLinks_0 4 rfl rfl)
theorem dX2_correctLinks_7 : decode cX2_correctLinks 7 = .ok (.astore_n 1, 1) := dk_76 (dk_at dksX2_correctLinks_0 7 rfl rfl)
theorem dX2_correctLinks_8 : decode cX2_correctLinks 8 = .ok (.aload_n 0, 1) := dk_42 (dk_at dksX2_correctLinks_0 8 rfl rfl)
theorem dX2_correctLinks_9 : decode cX2_correctLinks 9 = .ok (.invokevirtual 82, 3) := dk_182 0 82 (dk_at dksX2_correctLinks_0 9 rfl rfl)
theorem dX2_correctLinks_12 : decode cX2_correctLinks 12 = .ok (.astore_n 2, 1) := dk_77 (dk_at dksX2_correctLinks_0 12 rfl rfl)
theorem dX2_correctLinks_13 : decode cX2_correctLinks 13 = .ok (.aload_n 1, 1) := dk_43 (dk_at dksX2_correctLinks_0 13 rfl rfl)
theorem dX2_correctLinks_14 : decode cX2_correctLinks 14 = .ok (.aload_n 2, 1) := dk_44 (dk_at dksX2_correctLinks_0 14 rfl rfl)
theorem dX2_correctLinks_15 : decode cX2_correctLinks 15 = .ok (.iconst 0, 1) := dk_3 (dk_at dksX2_correctLinks_0 15 rfl rfl)
theorem dX2_correctLinks_16 : decode cX2_correctLinks 16 = .ok (.iconst (-1), 1) := dk_2 (dk_at dksX2_correctLinks_0 16 rfl rfl)
theorem dX2_correctLinks_17 : decode cX2_correctLinks 17 = .ok (.invokestatic 74, 3) := dk_184 0 74 (dk_at dksX2_correctLinks_0 17 rfl rfl)
theorem dX2_correctLinks_20 : decode cX2_correctLinks 20 = .ok (.invokestatic 86, 3) := dk_184 0 86 (dk_at dksX2_correctLinks_0 20 rfl rfl)
theorem dX2_correctLinks_23 : decode cX2_correctLinks 23 = .ok (.checkcast 69, 3) := dk_192 0 69 (dk_at dksX2_correctLinks_1 0 rfl rfl)
theorem dX2_correctLinks_26 : decode cX2_correctLinks 26 = .ok (.invokevirtual 71, 3) := dk_182 0 71 (dk_at dksX2_correctLinks_1 3 rfl rfl)
theorem dX2_correctLinks_29 : decode cX2_correctLinks 29 = .ok (.putfield 90, 3) := dk_181 0 90 (dk_at dksX2_correctLinks_1 6 rfl rfl)
theorem dX2_correctLinks_32 : decode cX2_correctLinks 32 = .ok (.aload_n 1, 1) := dk_43 (dk_at dksX2_correctLinks_1 9 rfl rfl)
theorem dX2_correctLinks_33 : decode cX2_correctLinks 33 = .ok (.aload_n 2, 1) := dk_44 (dk_at dksX2_correctLinks_1 10 rfl rfl)
theorem dX2_correctLinks_34 : decode cX2_correctLinks 34 = .ok (.iconst 1, 1) := dk_4 (dk_at dksX2_correctLinks_1 11 rfl rfl)
theorem dX2_correctLinks_35 : decode cX2_correctLinks 35 = .ok (.iconst (-1), 1) := dk_2 (dk_at dksX2_correctLinks_1 12 rfl rfl)
theorem dX2_correctLinks_36 : decode cX2_correctLinks 36 = .ok (.invokestatic 74, 3) := dk_184 0 74 (dk_at dksX2_correctLinks_1 13 rfl rfl)
theorem dX2_correctLinks_39 : decode cX2_correctLinks 39 = .ok (.invokestatic 86, 3) := dk_184 0 86 (dk_at dksX2_correctLinks_1 16 rfl rfl)
theorem dX2_correctLinks_42 : decode cX2_correctLinks 42 = .ok (.checkcast 69, 3) := dk_192 0 69 (dk_at dksX2_correctLinks_1 19 rfl rfl)
theorem dX2_correctLinks_45 : decode cX2_correctLinks 45 = .ok (.invokevirtual 71, 3) := dk_182 0 71 (dk_at dksX2_correctLinks_2 0 rfl rfl)
theorem dX2_correctLinks_48 : decode cX2_correctLinks 48 = .ok (.putfield 93, 3) := dk_181 0 93 (dk_at dksX2_correctLinks_2 3 rfl rfl)
theorem dX2_correctLinks_51 : decode cX2_correctLinks 51 = .ok (.aload_n 1, 1) := dk_43 (dk_at dksX2_correctLinks_2 6 rfl rfl)
theorem dX2_correctLinks_52 : decode cX2_correctLinks 52 = .ok (.aload_n 2, 1) := dk_44 (dk_at dksX2_correctLinks_2 7 rfl rfl)
theorem dX2_correctLinks_53 : decode cX2_correctLinks 53 = .ok (.invokeinterface 59 1, 5) := by decide +kernel
theorem dX2_correctLinks_58 : decode cX2_correctLinks 58 = .ok (.putfield 96, 3) := dk_181 0 96 (dk_at dksX2_correctLinks_2 13 rfl rfl)
theorem dX2_correctLinks_61 : decode cX2_correctLinks 61 = .ok (.iconst 0, 1) := dk_3 (dk_at dksX2_correctLinks_2 16 rfl rfl)
theorem dX2_correctLinks_62 : decode cX2_correctLinks 62 = .ok (.istore_n 3, 1) := dk_62 (dk_at dksX2_correctLinks_2 17 rfl rfl)
theorem dX2_correctLinks_63 : decode cX2_correctLinks 63 = .ok (.iload_n 3, 1) := dk_29 (dk_at dksX2_correctLinks_2 18 rfl rfl)
theorem dX2_correctLinks_64 : decode cX2_correctLinks 64 = .ok (.aload_n 2, 1) := dk_44 (dk_at dksX2_correctLinks_2 19 rfl rfl)
theorem dX2_correctLinks_65 : decode cX2_correctLinks 65 = .ok (.invokeinterface 59 1, 5) := by decide +kernel
theorem dX2_correctLinks_70 : decode cX2_correctLinks 70 = .ok (.if_icmp .ge 79, 3) := dk_162 0 79 (dk_at dksX2_correctLinks_3 5 rfl rfl)
theorem dX2_correctLinks_73 : decode cX2_correctLinks 73 = .ok (.aload_n 1, 1) := dk_43 (dk_at dksX2_correctLinks_3 8 rfl rfl)
theorem dX2_correctLinks_74 : decode cX2_correctLinks 74 = .ok (.getfield 99, 3) := dk_180 0 99 (dk_at dksX2_correctLinks_3 9 rfl rfl)
theorem dX2_correctLinks_77 : decode cX2_correctLinks 77 = .ok (.aload_n 2, 1) := dk_44 (dk_at dksX2_correctLinks_3 12 rfl rfl)
theorem dX2_correctLinks_78 : decode cX2_correctLinks 78 = .ok (.iload_n 3, 1) := dk_29 (dk_at dksX2_correctLinks_3 13 rfl rfl)
theorem dX2_correctLinks_79 : decode cX2_correctLinks 79 = .ok (.invokeinterface 65 2, 5) := by decide +kernel
theorem dX2_correctLinks_84 : decode cX2_correctLinks 84 = .ok (.checkcast 69, 3) := dk_192 0 69 (dk_at dksX2_correctLinks_3 19 rfl rfl)
theorem dX2_correctLinks_87 : decode cX2_correctLinks 87 = .ok (.invokevirtual 71, 3) := dk_182 0 71 (dk_at dksX2_correctLinks_4 0 rfl rfl)
theorem dX2_correctLinks_90 : decode cX2_correctLinks 90 = .ok (.aload_n 2, 1) := dk_44 (dk_at dksX2_correctLinks_4 3 rfl rfl)
theorem dX2_correctLinks_91 : decode cX2_correctLinks 91 = .ok (.iload_n 3, 1) := dk_29 (dk_at dksX2_correctLinks_4 4 rfl rfl)
theorem dX2_correctLinks_92 : decode cX2_correctLinks 92 = .ok (.iconst 1, 1) := dk_4 (dk_at dksX2_correctLinks_4 5 rfl rfl)
theorem dX2_correctLinks_93 : decode cX2_correctLinks 93 = .ok (.iadd, 1) := dk_96 (dk_at dksX2_correctLinks_4 6 rfl rfl)
theorem dX2_correctLinks_94 : decode cX2_correctLinks 94 = .ok (.iconst (-1), 1) := dk_2 (dk_at dksX2_correctLinks_4 7 rfl rfl)
theorem dX2_correctLinks_95 : decode cX2_correctLinks 95 = .ok (.invokestatic 74, 3) := dk_184 0 74 (dk_at dksX2_correctLinks_4 8 rfl rfl)
theorem dX2_correctLinks_98 : decode cX2_correctLinks 98 = .ok (.invokestatic 86, 3) := dk_184 0 86 (dk_at dksX2_correctLinks_4 11 rfl rfl)
theorem dX2_correctLinks_101 : decode cX2_correctLinks 101 = .ok (.checkcast 69, 3) := dk_192 0 69 (dk_at dksX2_correctLinks_4 14 rfl rfl)
theorem dX2_correctLinks_104 : decode cX2_correctLinks 104 = .ok (.invokevirtual 71, 3) := dk_182 0 71 (dk_at dksX2_correctLinks_4 17 rfl rfl)
theorem dX2_correctLinks_107 : decode cX2_correctLinks 107 = .ok (.iastore, 1) := dk_79 (dk_at dksX2_correctLinks_4 20 rfl rfl)
theorem dX2_correctLinks_108 : decode cX2_correctLinks 108 = .ok (.aload_n 1, 1) := dk_43 (dk_at dksX2_correctLinks_4 21 rfl rfl)
theorem dX2_correctLinks_109 : decode cX2_correctLinks 109 = .ok (.getfield 103, 3) := dk_180 0 103 (dk_at dksX2_correctLinks_5 0 rfl rfl)
theorem dX2_correctLinks_112 : decode cX2_correctLinks 112 = .ok (.aload_n 2, 1) := dk_44 (dk_at dksX2_correctLinks_5 3 rfl rfl)
theorem dX2_correctLinks_113 : decode cX2_correctLinks 113 = .ok (.iload_n 3, 1) := dk_29 (dk_at dksX2_correctLinks_5 4 rfl rfl)
theorem dX2_correctLinks_114 : decode cX2_correctLinks 114 = .ok (.invokeinterface 65 2, 5) := by decide +kernel
theorem dX2_correctLinks_119 : decode cX2_correctLinks 119 = .ok (.checkcast 69, 3) := dk_192 0 69 (dk_at dksX2_correctLinks_5 10 rfl rfl)
theorem dX2_correctLinks_122 : decode cX2_correctLinks 122 = .ok (.invokevirtual 71, 3) := dk_182 0 71 (dk_at dksX2_correctLinks_5 13 rfl rfl)
theorem dX2_correctLinks_125 : decode cX2_correctLinks 125 = .ok (.aload_n 2, 1) := dk_44 (dk_at dksX2_correctLinks_5 16 rfl rfl)
theorem dX2_correctLinks_126 : decode cX2_correctLinks 126 = .ok (.iload_n 3, 1) := dk_29 (dk_at dksX2_correctLinks_5 17 rfl rfl)
theorem dX2_correctLinks_127 : decode cX2_correctLinks 127 = .ok (.iconst 2, 1) := dk_5 (dk_at dksX2_correctLinks_5 18 rfl rfl)
theorem dX2_correctLinks_128 : decode cX2_correctLinks 128 = .ok (.iadd, 1) := dk_96 (dk_at dksX2_correctLinks_5 19 rfl rfl)
theorem dX2_correctLinks_129 : decode cX2_correctLinks 129 = .ok (.iconst (-1), 1) := dk_2 (dk_at dksX2_correctLinks_5 20 rfl rfl)
theorem dX2_correctLinks_130 : decode cX2_correctLinks 130 = .ok (.invokestatic 74, 3) := dk_184 0 74 (dk_at dksX2_correctLinks_5 21 rfl rfl)
theorem dX2_correctLinks_133 : decode cX2_correctLinks 133 = .ok (.invokestatic 86, 3) := dk_184 0 86 (dk_at dksX2_correctLinks_6 0 rfl rfl)
theorem dX2_correctLinks_136 : decode cX2_correctLinks 136 = .ok (.checkcast 69, 3) := dk_192 0 69 (dk_at dksX2_correctLinks_6 3 rfl rfl)
theorem dX2_correctLinks_139 : decode cX2_correctLinks 139 = .ok (.invokevirtual 71, 3) := dk_182 0 71 (dk_at dksX2_correctLinks_6 6 rfl rfl)
theorem dX2_correctLinks_142 : decode cX2_correctLinks 142 = .ok (.iastore, 1) := dk_79 (dk_at dksX2_correctLinks_6 9 rfl rfl)
theorem dX2_correctLinks_143 : decode cX2_correctLinks 143 = .ok (.iinc 3 1, 3) := dk_132 3 1 (dk_at dksX2_correctLinks_6 10 rfl rfl)
theorem dX2_correctLinks_146 : decode cX2_correctLinks 146 = .ok (.goto (-83), 3) := dk_167 255 173 (dk_at dksX2_correctLinks_6 13 rfl rfl)
theorem dX2_correctLinks_149 : decode cX2_correctLinks 149 = .ok (.aload_n 1, 1) := dk_43 (dk_at dksX2_correctLinks_6 16 rfl rfl)
theorem dX2_correctLinks_150 : decode cX2_correctLinks 150 = .ok (.areturn, 1) := dk_176 (dk_at dksX2_correctLinks_6 17 rfl rfl)
abbrev cX2_byMiles : ByteArray := prog_8_method_8_code
def yX2_byMiles : MethodName := ⟨RX2, "byMiles", "()Ljava/util/List;"⟩
def dkwX2_byMiles_4 : List UInt8 := [176]
abbrev dktX2_byMiles_4 : List UInt8 := dkwX2_byMiles_4 ++ []
def dkwX2_byMiles_3 : List UInt8 := [132, 3, 255, 167, 255, 214, 43, 29, 28, 184, 0, 74, 185, 0, 78, 3, 0, 132, 2, 1, 167, 255, 176, 43]
abbrev dktX2_byMiles_3 : List UInt8 := dkwX2_byMiles_3 ++ dktX2_byMiles_4
def dkwX2_byMiles_2 : List UInt8 := [192, 0, 69, 182, 0, 71, 50, 180, 0, 53, 42, 180, 0, 11, 28, 50, 180, 0, 53, 164, 0, 9]
abbrev dktX2_byMiles_2 : List UInt8 := dkwX2_byMiles_2 ++ dktX2_byMiles_3
def dkwX2_byMiles_1 : List UInt8 := [43, 185, 0, 59, 1, 0, 62, 29, 158, 0, 44, 42, 180, 0, 11, 43, 29, 4, 100, 185, 0, 65, 2, 0]
abbrev dktX2_byMiles_1 : List UInt8 := dkwX2_byMiles_1 ++ dktX2_byMiles_2
def dkwX2_byMiles_0 : List UInt8 := [187, 0, 56, 89, 183, 0, 58, 76, 3, 61, 28, 16, 12, 162, 0, 80, 42, 28, 182, 0, 45, 153, 0, 66]
abbrev dktX2_byMiles_0 : List UInt8 := dkwX2_byMiles_0 ++ dktX2_byMiles_1
theorem dksX2_byMiles_0 : cX2_byMiles.data.toList.drop 0 = dktX2_byMiles_0 := by decide +kernel
theorem dksX2_byMiles_1 : cX2_byMiles.data.toList.drop 24 = dktX2_byMiles_1 := dk_seg dksX2_byMiles_0 24 rfl rfl
theorem dksX2_byMiles_2 : cX2_byMiles.data.toList.drop 48 = dktX2_byMiles_2 := dk_seg dksX2_byMiles_1 24 rfl rfl
theorem dksX2_byMiles_3 : cX2_byMiles.data.toList.drop 70 = dktX2_byMiles_3 := dk_seg dksX2_byMiles_2 22 rfl rfl
theorem dksX2_byMiles_4 : cX2_byMiles.data.toList.drop 94 = dktX2_byMiles_4 := dk_seg dksX2_byMiles_3 24 rfl rfl
theorem dX2_byMiles_0 : decode cX2_byMiles 0 = .ok (.new 56, 3) := dk_187 0 56 (dk_at dksX2_byMiles_0 0 rfl rfl)
theorem dX2_byMiles_3 : decode cX2_byMiles 3 = .ok (.dup, 1) := dk_89 (dk_at dksX2_byMiles_0 3 rfl rfl)
theorem dX2_byMiles_4 : decode cX2_byMiles 4 = .ok (.invokespecial 58, 3) := dk_183 0 58 (dk_at dksX2_byMiles_0 4 rfl rfl)
theorem dX2_byMiles_7 : decode cX2_byMiles 7 = .ok (.astore_n 1, 1) := dk_76 (dk_at dksX2_byMiles_0 7 rfl rfl)
theorem dX2_byMiles_8 : decode cX2_byMiles 8 = .ok (.iconst 0, 1) := dk_3 (dk_at dksX2_byMiles_0 8 rfl rfl)
theorem dX2_byMiles_9 : decode cX2_byMiles 9 = .ok (.istore_n 2, 1) := dk_61 (dk_at dksX2_byMiles_0 9 rfl rfl)
theorem dX2_byMiles_10 : decode cX2_byMiles 10 = .ok (.iload_n 2, 1) := dk_28 (dk_at dksX2_byMiles_0 10 rfl rfl)
theorem dX2_byMiles_11 : decode cX2_byMiles 11 = .ok (.bipush 12, 2) := dk_16 12 (dk_at dksX2_byMiles_0 11 rfl rfl)
theorem dX2_byMiles_13 : decode cX2_byMiles 13 = .ok (.if_icmp .ge 80, 3) := dk_162 0 80 (dk_at dksX2_byMiles_0 13 rfl rfl)
theorem dX2_byMiles_16 : decode cX2_byMiles 16 = .ok (.aload_n 0, 1) := dk_42 (dk_at dksX2_byMiles_0 16 rfl rfl)
theorem dX2_byMiles_17 : decode cX2_byMiles 17 = .ok (.iload_n 2, 1) := dk_28 (dk_at dksX2_byMiles_0 17 rfl rfl)
theorem dX2_byMiles_18 : decode cX2_byMiles 18 = .ok (.invokevirtual 45, 3) := dk_182 0 45 (dk_at dksX2_byMiles_0 18 rfl rfl)
theorem dX2_byMiles_21 : decode cX2_byMiles 21 = .ok (.ifCond .eq 66, 3) := dk_153 0 66 (dk_at dksX2_byMiles_0 21 rfl rfl)
theorem dX2_byMiles_24 : decode cX2_byMiles 24 = .ok (.aload_n 1, 1) := dk_43 (dk_at dksX2_byMiles_1 0 rfl rfl)
theorem dX2_byMiles_25 : decode cX2_byMiles 25 = .ok (.invokeinterface 59 1, 5) := by decide +kernel
theorem dX2_byMiles_30 : decode cX2_byMiles 30 = .ok (.istore_n 3, 1) := dk_62 (dk_at dksX2_byMiles_1 6 rfl rfl)
theorem dX2_byMiles_31 : decode cX2_byMiles 31 = .ok (.iload_n 3, 1) := dk_29 (dk_at dksX2_byMiles_1 7 rfl rfl)
theorem dX2_byMiles_32 : decode cX2_byMiles 32 = .ok (.ifCond .le 44, 3) := dk_158 0 44 (dk_at dksX2_byMiles_1 8 rfl rfl)
theorem dX2_byMiles_35 : decode cX2_byMiles 35 = .ok (.aload_n 0, 1) := dk_42 (dk_at dksX2_byMiles_1 11 rfl rfl)
theorem dX2_byMiles_36 : decode cX2_byMiles 36 = .ok (.getfield 11, 3) := dk_180 0 11 (dk_at dksX2_byMiles_1 12 rfl rfl)
theorem dX2_byMiles_39 : decode cX2_byMiles 39 = .ok (.aload_n 1, 1) := dk_43 (dk_at dksX2_byMiles_1 15 rfl rfl)
theorem dX2_byMiles_40 : decode cX2_byMiles 40 = .ok (.iload_n 3, 1) := dk_29 (dk_at dksX2_byMiles_1 16 rfl rfl)
theorem dX2_byMiles_41 : decode cX2_byMiles 41 = .ok (.iconst 1, 1) := dk_4 (dk_at dksX2_byMiles_1 17 rfl rfl)
theorem dX2_byMiles_42 : decode cX2_byMiles 42 = .ok (.isub, 1) := dk_100 (dk_at dksX2_byMiles_1 18 rfl rfl)
theorem dX2_byMiles_43 : decode cX2_byMiles 43 = .ok (.invokeinterface 65 2, 5) := by decide +kernel
theorem dX2_byMiles_48 : decode cX2_byMiles 48 = .ok (.checkcast 69, 3) := dk_192 0 69 (dk_at dksX2_byMiles_2 0 rfl rfl)
theorem dX2_byMiles_51 : decode cX2_byMiles 51 = .ok (.invokevirtual 71, 3) := dk_182 0 71 (dk_at dksX2_byMiles_2 3 rfl rfl)
theorem dX2_byMiles_54 : decode cX2_byMiles 54 = .ok (.aaload, 1) := dk_50 (dk_at dksX2_byMiles_2 6 rfl rfl)
theorem dX2_byMiles_55 : decode cX2_byMiles 55 = .ok (.getfield 53, 3) := dk_180 0 53 (dk_at dksX2_byMiles_2 7 rfl rfl)
theorem dX2_byMiles_58 : decode cX2_byMiles 58 = .ok (.aload_n 0, 1) := dk_42 (dk_at dksX2_byMiles_2 10 rfl rfl)
theorem dX2_byMiles_59 : decode cX2_byMiles 59 = .ok (.getfield 11, 3) := dk_180 0 11 (dk_at dksX2_byMiles_2 11 rfl rfl)
theorem dX2_byMiles_62 : decode cX2_byMiles 62 = .ok (.iload_n 2, 1) := dk_28 (dk_at dksX2_byMiles_2 14 rfl rfl)
theorem dX2_byMiles_63 : decode cX2_byMiles 63 = .ok (.aaload, 1) := dk_50 (dk_at dksX2_byMiles_2 15 rfl rfl)
theorem dX2_byMiles_64 : decode cX2_byMiles 64 = .ok (.getfield 53, 3) := dk_180 0 53 (dk_at dksX2_byMiles_2 16 rfl rfl)
theorem dX2_byMiles_67 : decode cX2_byMiles 67 = .ok (.if_icmp .le 9, 3) := dk_164 0 9 (dk_at dksX2_byMiles_2 19 rfl rfl)
theorem dX2_byMiles_70 : decode cX2_byMiles 70 = .ok (.iinc 3 (-1), 3) := dk_132 3 255 (dk_at dksX2_byMiles_3 0 rfl rfl)
theorem dX2_byMiles_73 : decode cX2_byMiles 73 = .ok (.goto (-42), 3) := dk_167 255 214 (dk_at dksX2_byMiles_3 3 rfl rfl)
theorem dX2_byMiles_76 : decode cX2_byMiles 76 = .ok (.aload_n 1, 1) := dk_43 (dk_at dksX2_byMiles_3 6 rfl rfl)
theorem dX2_byMiles_77 : decode cX2_byMiles 77 = .ok (.iload_n 3, 1) := dk_29 (dk_at dksX2_byMiles_3 7 rfl rfl)
theorem dX2_byMiles_78 : decode cX2_byMiles 78 = .ok (.iload_n 2, 1) := dk_28 (dk_at dksX2_byMiles_3 8 rfl rfl)
theorem dX2_byMiles_79 : decode cX2_byMiles 79 = .ok (.invokestatic 74, 3) := dk_184 0 74 (dk_at dksX2_byMiles_3 9 rfl rfl)
theorem dX2_byMiles_82 : decode cX2_byMiles 82 = .ok (.invokeinterface 78 3, 5) := by decide +kernel
theorem dX2_byMiles_87 : decode cX2_byMiles 87 = .ok (.iinc 2 1, 3) := dk_132 2 1 (dk_at dksX2_byMiles_3 17 rfl rfl)
theorem dX2_byMiles_90 : decode cX2_byMiles 90 = .ok (.goto (-80), 3) := dk_167 255 176 (dk_at dksX2_byMiles_3 20 rfl rfl)
theorem dX2_byMiles_93 : decode cX2_byMiles 93 = .ok (.aload_n 1, 1) := dk_43 (dk_at dksX2_byMiles_3 23 rfl rfl)
theorem dX2_byMiles_94 : decode cX2_byMiles 94 = .ok (.areturn, 1) := dk_176 (dk_at dksX2_byMiles_4 0 rfl rfl)
abbrev cX2_hasInn : ByteArray := prog_8_method_3_code
def yX2_hasInn : MethodName := ⟨RX2, "hasInn", "(I)Z"⟩
def dkwX2_hasInn_0 : List UInt8 := [27, 2, 159, 0, 16, 42, 180, 0, 11, 27, 50, 198, 0, 7, 4, 167, 0, 4, 3, 172]
abbrev dktX2_hasInn_0 : List UInt8 := dkwX2_hasInn_0 ++ []
theorem dksX2_hasInn_0 : cX2_hasInn.data.toList.drop 0 = dktX2_hasInn_0 := by decide +kernel
theorem dX2_hasInn_0 : decode cX2_hasInn 0 = .ok (.iload_n 1, 1) := dk_27 (dk_at dksX2_hasInn_0 0 rfl rfl)
theorem dX2_hasInn_1 : decode cX2_hasInn 1 = .ok (.iconst (-1), 1) := dk_2 (dk_at dksX2_hasInn_0 1 rfl rfl)
theorem dX2_hasInn_2 : decode cX2_hasInn 2 = .ok (.if_icmp .eq 16, 3) := dk_159 0 16 (dk_at dksX2_hasInn_0 2 rfl rfl)
theorem dX2_hasInn_5 : decode cX2_hasInn 5 = .ok (.aload_n 0, 1) := dk_42 (dk_at dksX2_hasInn_0 5 rfl rfl)
theorem dX2_hasInn_6 : decode cX2_hasInn 6 = .ok (.getfield 11, 3) := dk_180 0 11 (dk_at dksX2_hasInn_0 6 rfl rfl)
theorem dX2_hasInn_9 : decode cX2_hasInn 9 = .ok (.iload_n 1, 1) := dk_27 (dk_at dksX2_hasInn_0 9 rfl rfl)
theorem dX2_hasInn_10 : decode cX2_hasInn 10 = .ok (.aaload, 1) := dk_50 (dk_at dksX2_hasInn_0 10 rfl rfl)
theorem dX2_hasInn_11 : decode cX2_hasInn 11 = .ok (.ifnull 7, 3) := dk_198 0 7 (dk_at dksX2_hasInn_0 11 rfl rfl)
theorem dX2_hasInn_14 : decode cX2_hasInn 14 = .ok (.iconst 1, 1) := dk_4 (dk_at dksX2_hasInn_0 14 rfl rfl)
theorem dX2_hasInn_15 : decode cX2_hasInn 15 = .ok (.goto 4, 3) := dk_167 0 4 (dk_at dksX2_hasInn_0 15 rfl rfl)
theorem dX2_hasInn_18 : decode cX2_hasInn 18 = .ok (.iconst 0, 1) := dk_3 (dk_at dksX2_hasInn_0 18 rfl rfl)
theorem dX2_hasInn_19 : decode cX2_hasInn 19 = .ok (.ireturn, 1) := dk_172 (dk_at dksX2_hasInn_0 19 rfl rfl)
abbrev cX2_elementOr : ByteArray := prog_8_method_9_code
def yX2_elementOr : MethodName := ⟨RX2, "elementOr", "(Ljava/util/List;ILjava/lang/Object;)Ljava/lang/Object;"⟩
def dkwX2_elementOr_0 : List UInt8 := [27, 42, 185, 0, 59, 1, 0, 162, 0, 13, 42, 27, 185, 0, 65, 2, 0, 167, 0, 4, 44, 176]
abbrev dktX2_elementOr_0 : List UInt8 := dkwX2_elementOr_0 ++ []
theorem dksX2_elementOr_0 : cX2_elementOr.data.toList.drop 0 = dktX2_elementOr_0 := by decide +kernel
theorem dX2_elementOr_0 : decode cX2_elementOr 0 = .ok (.iload_n 1, 1) := dk_27 (dk_at dksX2_elementOr_0 0 rfl rfl)
theorem dX2_elementOr_1 : decode cX2_elementOr 1 = .ok (.aload_n 0, 1) := dk_42 (dk_at dksX2_elementOr_0 1 rfl rfl)
theorem dX2_elementOr_2 : decode cX2_elementOr 2 = .ok (.invokeinterface 59 1, 5) := by decide +kernel
theorem dX2_elementOr_7 : decode cX2_elementOr 7 = .ok (.if_icmp .ge 13, 3) := dk_162 0 13 (dk_at dksX2_elementOr_0 7 rfl rfl)
theorem dX2_elementOr_10 : decode cX2_elementOr 10 = .ok (.aload_n 0, 1) := dk_42 (dk_at dksX2_elementOr_0 10 rfl rfl)
theorem dX2_elementOr_11 : decode cX2_elementOr 11 = .ok (.iload_n 1, 1) := dk_27 (dk_at dksX2_elementOr_0 11 rfl rfl)
theorem dX2_elementOr_12 : decode cX2_elementOr 12 = .ok (.invokeinterface 65 2, 5) := by decide +kernel
theorem dX2_elementOr_17 : decode cX2_elementOr 17 = .ok (.goto 4, 3) := dk_167 0 4 (dk_at dksX2_elementOr_0 17 rfl rfl)
theorem dX2_elementOr_20 : decode cX2_elementOr 20 = .ok (.aload_n 2, 1) := dk_44 (dk_at dksX2_elementOr_0 20 rfl rfl)
theorem dX2_elementOr_21 : decode cX2_elementOr 21 = .ok (.areturn, 1) := dk_176 (dk_at dksX2_elementOr_0 21 rfl rfl)
abbrev cX2_wrongValues : ByteArray := prog_8_method_13_code
def yX2_wrongValues : MethodName := ⟨RX2, "wrongValues", "(LInnRoad$Links;)I"⟩
def dkwX2_wrongValues_3 : List UInt8 := [167, 0, 4, 3, 96, 61, 132, 3, 1, 167, 255, 226, 28, 172]
abbrev dktX2_wrongValues_3 : List UInt8 := dkwX2_wrongValues_3 ++ []
def dkwX2_wrongValues_2 : List UInt8 := [62, 29, 16, 12, 162, 0, 30, 28, 42, 29, 182, 0, 45, 153, 0, 12, 42, 29, 43, 182, 0, 110]
abbrev dktX2_wrongValues_2 : List UInt8 := dkwX2_wrongValues_2 ++ dktX2_wrongValues_3
def dkwX2_wrongValues_1 : List UInt8 := [180, 0, 93, 184, 0, 106, 96, 42, 180, 0, 20, 180, 0, 96, 43, 180, 0, 96, 184, 0, 106, 96, 61, 3]
abbrev dktX2_wrongValues_1 : List UInt8 := dkwX2_wrongValues_1 ++ dktX2_wrongValues_2
def dkwX2_wrongValues_0 : List UInt8 := [42, 180, 0, 20, 180, 0, 90, 43, 180, 0, 90, 184, 0, 106, 42, 180, 0, 20, 180, 0, 93, 43]
abbrev dktX2_wrongValues_0 : List UInt8 := dkwX2_wrongValues_0 ++ dktX2_wrongValues_1
theorem dksX2_wrongValues_0 : cX2_wrongValues.data.toList.drop 0 = dktX2_wrongValues_0 := by decide +kernel
theorem dksX2_wrongValues_1 : cX2_wrongValues.data.toList.drop 22 = dktX2_wrongValues_1 := dk_seg dksX2_wrongValues_0 22 rfl rfl
theorem dksX2_wrongValues_2 : cX2_wrongValues.data.toList.drop 46 = dktX2_wrongValues_2 := dk_seg dksX2_wrongValues_1 24 rfl rfl
theorem dksX2_wrongValues_3 : cX2_wrongValues.data.toList.drop 68 = dktX2_wrongValues_3 := dk_seg dksX2_wrongValues_2 22 rfl rfl
theorem dX2_wrongValues_0 : decode cX2_wrongValues 0 = .ok (.aload_n 0, 1) := dk_42 (dk_at dksX2_wrongValues_0 0 rfl rfl)
theorem dX2_wrongValues_1 : decode cX2_wrongValues 1 = .ok (.getfield 20, 3) := dk_180 0 20 (dk_at dksX2_wrongValues_0 1 rfl rfl)
theorem dX2_wrongValues_4 : decode cX2_wrongValues 4 = .ok (.getfield 90, 3) := dk_180 0 90 (dk_at dksX2_wrongValues_0 4 rfl rfl)
theorem dX2_wrongValues_7 : decode cX2_wrongValues 7 = .ok (.aload_n 1, 1) := dk_43 (dk_at dksX2_wrongValues_0 7 rfl rfl)
theorem dX2_wrongValues_8 : decode cX2_wrongValues 8 = .ok (.getfield 90, 3) := dk_180 0 90 (dk_at dksX2_wrongValues_0 8 rfl rfl)
theorem dX2_wrongValues_11 : decode cX2_wrongValues 11 = .ok (.invokestatic 106, 3) := dk_184 0 106 (dk_at dksX2_wrongValues_0 11 rfl rfl)
theorem dX2_wrongValues_14 : decode cX2_wrongValues 14 = .ok (.aload_n 0, 1) := dk_42 (dk_at dksX2_wrongValues_0 14 rfl rfl)
theorem dX2_wrongValues_15 : decode cX2_wrongValues 15 = .ok (.getfield 20, 3) := dk_180 0 20 (dk_at dksX2_wrongValues_0 15 rfl rfl)
theorem dX2_wrongValues_18 : decode cX2_wrongValues 18 = .ok (.getfield 93, 3) := dk_180 0 93 (dk_at dksX2_wrongValues_0 18 rfl rfl)
theorem dX2_wrongValues_21 : decode cX2_wrongValues 21 = .ok (.aload_n 1, 1) := dk_43 (dk_at dksX2_wrongValues_0 21 rfl rfl)
theorem dX2_wrongValues_22 : decode cX2_wrongValues 22 = .ok (.getfield 93, 3) := dk_180 0 93 (dk_at dksX2_wrongValues_1 0 rfl rfl)
theorem dX2_wrongValues_25 : decode cX2_wrongValues 25 = .ok (.invokestatic 106, 3) := dk_184 0 106 (dk_at dksX2_wrongValues_1 3 rfl rfl)
theorem dX2_wrongValues_28 : decode cX2_wrongValues 28 = .ok (.iadd, 1) := dk_96 (dk_at dksX2_wrongValues_1 6 rfl rfl)
theorem dX2_wrongValues_29 : decode cX2_wrongValues 29 = .ok (.aload_n 0, 1) := dk_42 (dk_at dksX2_wrongValues_1 7 rfl rfl)
theorem dX2_wrongValues_30 : decode cX2_wrongValues 30 = .ok (.getfield 20, 3) := dk_180 0 20 (dk_at dksX2_wrongValues_1 8 rfl rfl)
theorem dX2_wrongValues_33 : decode cX2_wrongValues 33 = .ok (.getfield 96, 3) := dk_180 0 96 (dk_at dksX2_wrongValues_1 11 rfl rfl)
theorem dX2_wrongValues_36 : decode cX2_wrongValues 36 = .ok (.aload_n 1, 1) := dk_43 (dk_at dksX2_wrongValues_1 14 rfl rfl)
theorem dX2_wrongValues_37 : decode cX2_wrongValues 37 = .ok (.getfield 96, 3) := dk_180 0 96 (dk_at dksX2_wrongValues_1 15 rfl rfl)
theorem dX2_wrongValues_40 : decode cX2_wrongValues 40 = .ok (.invokestatic 106, 3) := dk_184 0 106 (dk_at dksX2_wrongValues_1 18 rfl rfl)
theorem dX2_wrongValues_43 : decode cX2_wrongValues 43 = .ok (.iadd, 1) := dk_96 (dk_at dksX2_wrongValues_1 21 rfl rfl)
theorem dX2_wrongValues_44 : decode cX2_wrongValues 44 = .ok (.istore_n 2, 1) := dk_61 (dk_at dksX2_wrongValues_1 22 rfl rfl)
theorem dX2_wrongValues_45 : decode cX2_wrongValues 45 = .ok (.iconst 0, 1) := dk_3 (dk_at dksX2_wrongValues_1 23 rfl rfl)
theorem dX2_wrongValues_46 : decode cX2_wrongValues 46 = .ok (.istore_n 3, 1) := dk_62 (dk_at dksX2_wrongValues_2 0 rfl rfl)
theorem dX2_wrongValues_47 : decode cX2_wrongValues 47 = .ok (.iload_n 3, 1) := dk_29 (dk_at dksX2_wrongValues_2 1 rfl rfl)
theorem dX2_wrongValues_48 : decode cX2_wrongValues 48 = .ok (.bipush 12, 2) := dk_16 12 (dk_at dksX2_wrongValues_2 2 rfl rfl)
theorem dX2_wrongValues_50 : decode cX2_wrongValues 50 = .ok (.if_icmp .ge 30, 3) := dk_162 0 30 (dk_at dksX2_wrongValues_2 4 rfl rfl)
theorem dX2_wrongValues_53 : decode cX2_wrongValues 53 = .ok (.iload_n 2, 1) := dk_28 (dk_at dksX2_wrongValues_2 7 rfl rfl)
theorem dX2_wrongValues_54 : decode cX2_wrongValues 54 = .ok (.aload_n 0, 1) := dk_42 (dk_at dksX2_wrongValues_2 8 rfl rfl)
theorem dX2_wrongValues_55 : decode cX2_wrongValues 55 = .ok (.iload_n 3, 1) := dk_29 (dk_at dksX2_wrongValues_2 9 rfl rfl)
theorem dX2_wrongValues_56 : decode cX2_wrongValues 56 = .ok (.invokevirtual 45, 3) := dk_182 0 45 (dk_at dksX2_wrongValues_2 10 rfl rfl)
theorem dX2_wrongValues_59 : decode cX2_wrongValues 59 = .ok (.ifCond .eq 12, 3) := dk_153 0 12 (dk_at dksX2_wrongValues_2 13 rfl rfl)
theorem dX2_wrongValues_62 : decode cX2_wrongValues 62 = .ok (.aload_n 0, 1) := dk_42 (dk_at dksX2_wrongValues_2 16 rfl rfl)
theorem dX2_wrongValues_63 : decode cX2_wrongValues 63 = .ok (.iload_n 3, 1) := dk_29 (dk_at dksX2_wrongValues_2 17 rfl rfl)
theorem dX2_wrongValues_64 : decode cX2_wrongValues 64 = .ok (.aload_n 1, 1) := dk_43 (dk_at dksX2_wrongValues_2 18 rfl rfl)
theorem dX2_wrongValues_65 : decode cX2_wrongValues 65 = .ok (.invokevirtual 110, 3) := dk_182 0 110 (dk_at dksX2_wrongValues_2 19 rfl rfl)
theorem dX2_wrongValues_68 : decode cX2_wrongValues 68 = .ok (.goto 4, 3) := dk_167 0 4 (dk_at dksX2_wrongValues_3 0 rfl rfl)
theorem dX2_wrongValues_71 : decode cX2_wrongValues 71 = .ok (.iconst 0, 1) := dk_3 (dk_at dksX2_wrongValues_3 3 rfl rfl)
theorem dX2_wrongValues_72 : decode cX2_wrongValues 72 = .ok (.iadd, 1) := dk_96 (dk_at dksX2_wrongValues_3 4 rfl rfl)
theorem dX2_wrongValues_73 : decode cX2_wrongValues 73 = .ok (.istore_n 2, 1) := dk_61 (dk_at dksX2_wrongValues_3 5 rfl rfl)
theorem dX2_wrongValues_74 : decode cX2_wrongValues 74 = .ok (.iinc 3 1, 3) := dk_132 3 1 (dk_at dksX2_wrongValues_3 6 rfl rfl)
theorem dX2_wrongValues_77 : decode cX2_wrongValues 77 = .ok (.goto (-30), 3) := dk_167 255 226 (dk_at dksX2_wrongValues_3 9 rfl rfl)
theorem dX2_wrongValues_80 : decode cX2_wrongValues 80 = .ok (.iload_n 2, 1) := dk_28 (dk_at dksX2_wrongValues_3 12 rfl rfl)
theorem dX2_wrongValues_81 : decode cX2_wrongValues 81 = .ok (.ireturn, 1) := dk_172 (dk_at dksX2_wrongValues_3 13 rfl rfl)
abbrev cX2_difference : ByteArray := prog_8_method_11_code
def yX2_difference : MethodName := ⟨RX2, "difference", "(II)I"⟩
def dkwX2_difference_0 : List UInt8 := [26, 27, 160, 0, 7, 3, 167, 0, 4, 4, 172]
abbrev dktX2_difference_0 : List UInt8 := dkwX2_difference_0 ++ []
theorem dksX2_difference_0 : cX2_difference.data.toList.drop 0 = dktX2_difference_0 := by decide +kernel
theorem dX2_difference_0 : decode cX2_difference 0 = .ok (.iload_n 0, 1) := dk_26 (dk_at dksX2_difference_0 0 rfl rfl)
theorem dX2_difference_1 : decode cX2_difference 1 = .ok (.iload_n 1, 1) := dk_27 (dk_at dksX2_difference_0 1 rfl rfl)
theorem dX2_difference_2 : decode cX2_difference 2 = .ok (.if_icmp .ne 7, 3) := dk_160 0 7 (dk_at dksX2_difference_0 2 rfl rfl)
theorem dX2_difference_5 : decode cX2_difference 5 = .ok (.iconst 0, 1) := dk_3 (dk_at dksX2_difference_0 5 rfl rfl)
theorem dX2_difference_6 : decode cX2_difference 6 = .ok (.goto 4, 3) := dk_167 0 4 (dk_at dksX2_difference_0 6 rfl rfl)
theorem dX2_difference_9 : decode cX2_difference 9 = .ok (.iconst 1, 1) := dk_4 (dk_at dksX2_difference_0 9 rfl rfl)
theorem dX2_difference_10 : decode cX2_difference 10 = .ok (.ireturn, 1) := dk_172 (dk_at dksX2_difference_0 10 rfl rfl)
abbrev cX2_wrongAt : ByteArray := prog_8_method_12_code
def yX2_wrongAt : MethodName := ⟨RX2, "wrongAt", "(ILInnRoad$Links;)I"⟩
def dkwX2_wrongAt_1 : List UInt8 := [180, 0, 103, 27, 46, 44, 180, 0, 103, 27, 46, 184, 0, 106, 96, 172]
abbrev dktX2_wrongAt_1 : List UInt8 := dkwX2_wrongAt_1 ++ []
def dkwX2_wrongAt_0 : List UInt8 := [42, 180, 0, 20, 180, 0, 99, 27, 46, 44, 180, 0, 99, 27, 46, 184, 0, 106, 42, 180, 0, 20]
abbrev dktX2_wrongAt_0 : List UInt8 := dkwX2_wrongAt_0 ++ dktX2_wrongAt_1
theorem dksX2_wrongAt_0 : cX2_wrongAt.data.toList.drop 0 = dktX2_wrongAt_0 := by decide +kernel
theorem dksX2_wrongAt_1 : cX2_wrongAt.data.toList.drop 22 = dktX2_wrongAt_1 := dk_seg dksX2_wrongAt_0 22 rfl rfl
theorem dX2_wrongAt_0 : decode cX2_wrongAt 0 = .ok (.aload_n 0, 1) := dk_42 (dk_at dksX2_wrongAt_0 0 rfl rfl)
theorem dX2_wrongAt_1 : decode cX2_wrongAt 1 = .ok (.getfield 20, 3) := dk_180 0 20 (dk_at dksX2_wrongAt_0 1 rfl rfl)
theorem dX2_wrongAt_4 : decode cX2_wrongAt 4 = .ok (.getfield 99, 3) := dk_180 0 99 (dk_at dksX2_wrongAt_0 4 rfl rfl)
theorem dX2_wrongAt_7 : decode cX2_wrongAt 7 = .ok (.iload_n 1, 1) := dk_27 (dk_at dksX2_wrongAt_0 7 rfl rfl)
theorem dX2_wrongAt_8 : decode cX2_wrongAt 8 = .ok (.iaload, 1) := dk_46 (dk_at dksX2_wrongAt_0 8 rfl rfl)
theorem dX2_wrongAt_9 : decode cX2_wrongAt 9 = .ok (.aload_n 2, 1) := dk_44 (dk_at dksX2_wrongAt_0 9 rfl rfl)
theorem dX2_wrongAt_10 : decode cX2_wrongAt 10 = .ok (.getfield 99, 3) := dk_180 0 99 (dk_at dksX2_wrongAt_0 10 rfl rfl)
theorem dX2_wrongAt_13 : decode cX2_wrongAt 13 = .ok (.iload_n 1, 1) := dk_27 (dk_at dksX2_wrongAt_0 13 rfl rfl)
theorem dX2_wrongAt_14 : decode cX2_wrongAt 14 = .ok (.iaload, 1) := dk_46 (dk_at dksX2_wrongAt_0 14 rfl rfl)
theorem dX2_wrongAt_15 : decode cX2_wrongAt 15 = .ok (.invokestatic 106, 3) := dk_184 0 106 (dk_at dksX2_wrongAt_0 15 rfl rfl)
theorem dX2_wrongAt_18 : decode cX2_wrongAt 18 = .ok (.aload_n 0, 1) := dk_42 (dk_at dksX2_wrongAt_0 18 rfl rfl)
theorem dX2_wrongAt_19 : decode cX2_wrongAt 19 = .ok (.getfield 20, 3) := dk_180 0 20 (dk_at dksX2_wrongAt_0 19 rfl rfl)
theorem dX2_wrongAt_22 : decode cX2_wrongAt 22 = .ok (.getfield 103, 3) := dk_180 0 103 (dk_at dksX2_wrongAt_1 0 rfl rfl)
theorem dX2_wrongAt_25 : decode cX2_wrongAt 25 = .ok (.iload_n 1, 1) := dk_27 (dk_at dksX2_wrongAt_1 3 rfl rfl)
theorem dX2_wrongAt_26 : decode cX2_wrongAt 26 = .ok (.iaload, 1) := dk_46 (dk_at dksX2_wrongAt_1 4 rfl rfl)
theorem dX2_wrongAt_27 : decode cX2_wrongAt 27 = .ok (.aload_n 2, 1) := dk_44 (dk_at dksX2_wrongAt_1 5 rfl rfl)
theorem dX2_wrongAt_28 : decode cX2_wrongAt 28 = .ok (.getfield 103, 3) := dk_180 0 103 (dk_at dksX2_wrongAt_1 6 rfl rfl)
theorem dX2_wrongAt_31 : decode cX2_wrongAt 31 = .ok (.iload_n 1, 1) := dk_27 (dk_at dksX2_wrongAt_1 9 rfl rfl)
theorem dX2_wrongAt_32 : decode cX2_wrongAt 32 = .ok (.iaload, 1) := dk_46 (dk_at dksX2_wrongAt_1 10 rfl rfl)
theorem dX2_wrongAt_33 : decode cX2_wrongAt 33 = .ok (.invokestatic 106, 3) := dk_184 0 106 (dk_at dksX2_wrongAt_1 11 rfl rfl)
theorem dX2_wrongAt_36 : decode cX2_wrongAt 36 = .ok (.iadd, 1) := dk_96 (dk_at dksX2_wrongAt_1 14 rfl rfl)
theorem dX2_wrongAt_37 : decode cX2_wrongAt 37 = .ok (.ireturn, 1) := dk_172 (dk_at dksX2_wrongAt_1 15 rfl rfl)
abbrev cX2_innAtMile : ByteArray := prog_8_method_6_code
def yX2_innAtMile : MethodName := ⟨RX2, "innAtMile", "(I)I"⟩
def dkwX2_innAtMile_1 : List UInt8 := [180, 0, 53, 27, 160, 0, 5, 28, 172, 132, 2, 1, 167, 255, 224, 2, 172]
abbrev dktX2_innAtMile_1 : List UInt8 := dkwX2_innAtMile_1 ++ []
def dkwX2_innAtMile_0 : List UInt8 := [3, 61, 28, 16, 12, 162, 0, 32, 42, 28, 182, 0, 45, 153, 0, 18, 42, 180, 0, 11, 28, 50]
abbrev dktX2_innAtMile_0 : List UInt8 := dkwX2_innAtMile_0 ++ dktX2_innAtMile_1
theorem dksX2_innAtMile_0 : cX2_innAtMile.data.toList.drop 0 = dktX2_innAtMile_0 := by decide +kernel
theorem dksX2_innAtMile_1 : cX2_innAtMile.data.toList.drop 22 = dktX2_innAtMile_1 := dk_seg dksX2_innAtMile_0 22 rfl rfl
theorem dX2_innAtMile_0 : decode cX2_innAtMile 0 = .ok (.iconst 0, 1) := dk_3 (dk_at dksX2_innAtMile_0 0 rfl rfl)
theorem dX2_innAtMile_1 : decode cX2_innAtMile 1 = .ok (.istore_n 2, 1) := dk_61 (dk_at dksX2_innAtMile_0 1 rfl rfl)
theorem dX2_innAtMile_2 : decode cX2_innAtMile 2 = .ok (.iload_n 2, 1) := dk_28 (dk_at dksX2_innAtMile_0 2 rfl rfl)
theorem dX2_innAtMile_3 : decode cX2_innAtMile 3 = .ok (.bipush 12, 2) := dk_16 12 (dk_at dksX2_innAtMile_0 3 rfl rfl)
theorem dX2_innAtMile_5 : decode cX2_innAtMile 5 = .ok (.if_icmp .ge 32, 3) := dk_162 0 32 (dk_at dksX2_innAtMile_0 5 rfl rfl)
theorem dX2_innAtMile_8 : decode cX2_innAtMile 8 = .ok (.aload_n 0, 1) := dk_42 (dk_at dksX2_innAtMile_0 8 rfl rfl)
theorem dX2_innAtMile_9 : decode cX2_innAtMile 9 = .ok (.iload_n 2, 1) := dk_28 (dk_at dksX2_innAtMile_0 9 rfl rfl)
theorem dX2_innAtMile_10 : decode cX2_innAtMile 10 = .ok (.invokevirtual 45, 3) := dk_182 0 45 (dk_at dksX2_innAtMile_0 10 rfl rfl)
theorem dX2_innAtMile_13 : decode cX2_innAtMile 13 = .ok (.ifCond .eq 18, 3) := dk_153 0 18 (dk_at dksX2_innAtMile_0 13 rfl rfl)
theorem dX2_innAtMile_16 : decode cX2_innAtMile 16 = .ok (.aload_n 0, 1) := dk_42 (dk_at dksX2_innAtMile_0 16 rfl rfl)
theorem dX2_innAtMile_17 : decode cX2_innAtMile 17 = .ok (.getfield 11, 3) := dk_180 0 11 (dk_at dksX2_innAtMile_0 17 rfl rfl)
theorem dX2_innAtMile_20 : decode cX2_innAtMile 20 = .ok (.iload_n 2, 1) := dk_28 (dk_at dksX2_innAtMile_0 20 rfl rfl)
theorem dX2_innAtMile_21 : decode cX2_innAtMile 21 = .ok (.aaload, 1) := dk_50 (dk_at dksX2_innAtMile_0 21 rfl rfl)
theorem dX2_innAtMile_22 : decode cX2_innAtMile 22 = .ok (.getfield 53, 3) := dk_180 0 53 (dk_at dksX2_innAtMile_1 0 rfl rfl)
theorem dX2_innAtMile_25 : decode cX2_innAtMile 25 = .ok (.iload_n 1, 1) := dk_27 (dk_at dksX2_innAtMile_1 3 rfl rfl)
theorem dX2_innAtMile_26 : decode cX2_innAtMile 26 = .ok (.if_icmp .ne 5, 3) := dk_160 0 5 (dk_at dksX2_innAtMile_1 4 rfl rfl)
theorem dX2_innAtMile_29 : decode cX2_innAtMile 29 = .ok (.iload_n 2, 1) := dk_28 (dk_at dksX2_innAtMile_1 7 rfl rfl)
theorem dX2_innAtMile_30 : decode cX2_innAtMile 30 = .ok (.ireturn, 1) := dk_172 (dk_at dksX2_innAtMile_1 8 rfl rfl)
theorem dX2_innAtMile_31 : decode cX2_innAtMile 31 = .ok (.iinc 2 1, 3) := dk_132 2 1 (dk_at dksX2_innAtMile_1 9 rfl rfl)
theorem dX2_innAtMile_34 : decode cX2_innAtMile 34 = .ok (.goto (-32), 3) := dk_167 255 224 (dk_at dksX2_innAtMile_1 12 rfl rfl)
theorem dX2_innAtMile_37 : decode cX2_innAtMile 37 = .ok (.iconst (-1), 1) := dk_2 (dk_at dksX2_innAtMile_1 15 rfl rfl)
theorem dX2_innAtMile_38 : decode cX2_innAtMile 38 = .ok (.ireturn, 1) := dk_172 (dk_at dksX2_innAtMile_1 16 rfl rfl)
abbrev cX2_openInns : ByteArray := prog_8_method_5_code
def yX2_openInns : MethodName := ⟨RX2, "openInns", "()I"⟩
def dkwX2_openInns_1 : List UInt8 := [50, 180, 0, 49, 153, 0, 7, 4, 167, 0, 4, 3, 96, 60, 132, 2, 1, 167, 255, 219, 27, 172]
abbrev dktX2_openInns_1 : List UInt8 := dkwX2_openInns_1 ++ []
def dkwX2_openInns_0 : List UInt8 := [3, 60, 3, 61, 28, 16, 12, 162, 0, 37, 27, 42, 28, 182, 0, 45, 153, 0, 19, 42, 180, 0, 11, 28]
abbrev dktX2_openInns_0 : List UInt8 := dkwX2_openInns_0 ++ dktX2_openInns_1
theorem dksX2_openInns_0 : cX2_openInns.data.toList.drop 0 = dktX2_openInns_0 := by decide +kernel
theorem dksX2_openInns_1 : cX2_openInns.data.toList.drop 24 = dktX2_openInns_1 := dk_seg dksX2_openInns_0 24 rfl rfl
theorem dX2_openInns_0 : decode cX2_openInns 0 = .ok (.iconst 0, 1) := dk_3 (dk_at dksX2_openInns_0 0 rfl rfl)
theorem dX2_openInns_1 : decode cX2_openInns 1 = .ok (.istore_n 1, 1) := dk_60 (dk_at dksX2_openInns_0 1 rfl rfl)
theorem dX2_openInns_2 : decode cX2_openInns 2 = .ok (.iconst 0, 1) := dk_3 (dk_at dksX2_openInns_0 2 rfl rfl)
theorem dX2_openInns_3 : decode cX2_openInns 3 = .ok (.istore_n 2, 1) := dk_61 (dk_at dksX2_openInns_0 3 rfl rfl)
theorem dX2_openInns_4 : decode cX2_openInns 4 = .ok (.iload_n 2, 1) := dk_28 (dk_at dksX2_openInns_0 4 rfl rfl)
theorem dX2_openInns_5 : decode cX2_openInns 5 = .ok (.bipush 12, 2) := dk_16 12 (dk_at dksX2_openInns_0 5 rfl rfl)
theorem dX2_openInns_7 : decode cX2_openInns 7 = .ok (.if_icmp .ge 37, 3) := dk_162 0 37 (dk_at dksX2_openInns_0 7 rfl rfl)
theorem dX2_openInns_10 : decode cX2_openInns 10 = .ok (.iload_n 1, 1) := dk_27 (dk_at dksX2_openInns_0 10 rfl rfl)
theorem dX2_openInns_11 : decode cX2_openInns 11 = .ok (.aload_n 0, 1) := dk_42 (dk_at dksX2_openInns_0 11 rfl rfl)
theorem dX2_openInns_12 : decode cX2_openInns 12 = .ok (.iload_n 2, 1) := dk_28 (dk_at dksX2_openInns_0 12 rfl rfl)
theorem dX2_openInns_13 : decode cX2_openInns 13 = .ok (.invokevirtual 45, 3) := dk_182 0 45 (dk_at dksX2_openInns_0 13 rfl rfl)
theorem dX2_openInns_16 : decode cX2_openInns 16 = .ok (.ifCond .eq 19, 3) := dk_153 0 19 (dk_at dksX2_openInns_0 16 rfl rfl)
theorem dX2_openInns_19 : decode cX2_openInns 19 = .ok (.aload_n 0, 1) := dk_42 (dk_at dksX2_openInns_0 19 rfl rfl)
theorem dX2_openInns_20 : decode cX2_openInns 20 = .ok (.getfield 11, 3) := dk_180 0 11 (dk_at dksX2_openInns_0 20 rfl rfl)
theorem dX2_openInns_23 : decode cX2_openInns 23 = .ok (.iload_n 2, 1) := dk_28 (dk_at dksX2_openInns_0 23 rfl rfl)
theorem dX2_openInns_24 : decode cX2_openInns 24 = .ok (.aaload, 1) := dk_50 (dk_at dksX2_openInns_1 0 rfl rfl)
theorem dX2_openInns_25 : decode cX2_openInns 25 = .ok (.getfield 49, 3) := dk_180 0 49 (dk_at dksX2_openInns_1 1 rfl rfl)
theorem dX2_openInns_28 : decode cX2_openInns 28 = .ok (.ifCond .eq 7, 3) := dk_153 0 7 (dk_at dksX2_openInns_1 4 rfl rfl)
theorem dX2_openInns_31 : decode cX2_openInns 31 = .ok (.iconst 1, 1) := dk_4 (dk_at dksX2_openInns_1 7 rfl rfl)
theorem dX2_openInns_32 : decode cX2_openInns 32 = .ok (.goto 4, 3) := dk_167 0 4 (dk_at dksX2_openInns_1 8 rfl rfl)
theorem dX2_openInns_35 : decode cX2_openInns 35 = .ok (.iconst 0, 1) := dk_3 (dk_at dksX2_openInns_1 11 rfl rfl)
theorem dX2_openInns_36 : decode cX2_openInns 36 = .ok (.iadd, 1) := dk_96 (dk_at dksX2_openInns_1 12 rfl rfl)
theorem dX2_openInns_37 : decode cX2_openInns 37 = .ok (.istore_n 1, 1) := dk_60 (dk_at dksX2_openInns_1 13 rfl rfl)
theorem dX2_openInns_38 : decode cX2_openInns 38 = .ok (.iinc 2 1, 3) := dk_132 2 1 (dk_at dksX2_openInns_1 14 rfl rfl)
theorem dX2_openInns_41 : decode cX2_openInns 41 = .ok (.goto (-37), 3) := dk_167 255 219 (dk_at dksX2_openInns_1 17 rfl rfl)
theorem dX2_openInns_44 : decode cX2_openInns 44 = .ok (.iload_n 1, 1) := dk_27 (dk_at dksX2_openInns_1 20 rfl rfl)
theorem dX2_openInns_45 : decode cX2_openInns 45 = .ok (.ireturn, 1) := dk_172 (dk_at dksX2_openInns_1 21 rfl rfl)
abbrev cX2_copy : ByteArray := prog_8_method_2_code
def yX2_copy : MethodName := ⟨RX2, "copy", "()LInnRoad$Road;"⟩
def dkwX2_copy_2 : List UInt8 := [181, 0, 39, 43, 42, 180, 0, 42, 181, 0, 42, 43, 176]
abbrev dktX2_copy_2 : List UInt8 := dkwX2_copy_2 ++ []
def dkwX2_copy_1 : List UInt8 := [180, 0, 20, 42, 180, 0, 20, 182, 0, 31, 43, 42, 180, 0, 35, 181, 0, 35, 43, 42, 180, 0, 39]
abbrev dktX2_copy_1 : List UInt8 := dkwX2_copy_1 ++ dktX2_copy_2
def dkwX2_copy_0 : List UInt8 := [187, 0, 12, 89, 183, 0, 24, 76, 42, 180, 0, 11, 3, 43, 180, 0, 11, 3, 16, 12, 184, 0, 25, 43]
abbrev dktX2_copy_0 : List UInt8 := dkwX2_copy_0 ++ dktX2_copy_1
theorem dksX2_copy_0 : cX2_copy.data.toList.drop 0 = dktX2_copy_0 := by decide +kernel
theorem dksX2_copy_1 : cX2_copy.data.toList.drop 24 = dktX2_copy_1 := dk_seg dksX2_copy_0 24 rfl rfl
theorem dksX2_copy_2 : cX2_copy.data.toList.drop 47 = dktX2_copy_2 := dk_seg dksX2_copy_1 23 rfl rfl
theorem dX2_copy_0 : decode cX2_copy 0 = .ok (.new 12, 3) := dk_187 0 12 (dk_at dksX2_copy_0 0 rfl rfl)
theorem dX2_copy_3 : decode cX2_copy 3 = .ok (.dup, 1) := dk_89 (dk_at dksX2_copy_0 3 rfl rfl)
theorem dX2_copy_4 : decode cX2_copy 4 = .ok (.invokespecial 24, 3) := dk_183 0 24 (dk_at dksX2_copy_0 4 rfl rfl)
theorem dX2_copy_7 : decode cX2_copy 7 = .ok (.astore_n 1, 1) := dk_76 (dk_at dksX2_copy_0 7 rfl rfl)
theorem dX2_copy_8 : decode cX2_copy 8 = .ok (.aload_n 0, 1) := dk_42 (dk_at dksX2_copy_0 8 rfl rfl)
theorem dX2_copy_9 : decode cX2_copy 9 = .ok (.getfield 11, 3) := dk_180 0 11 (dk_at dksX2_copy_0 9 rfl rfl)
theorem dX2_copy_12 : decode cX2_copy 12 = .ok (.iconst 0, 1) := dk_3 (dk_at dksX2_copy_0 12 rfl rfl)
theorem dX2_copy_13 : decode cX2_copy 13 = .ok (.aload_n 1, 1) := dk_43 (dk_at dksX2_copy_0 13 rfl rfl)
theorem dX2_copy_14 : decode cX2_copy 14 = .ok (.getfield 11, 3) := dk_180 0 11 (dk_at dksX2_copy_0 14 rfl rfl)
theorem dX2_copy_17 : decode cX2_copy 17 = .ok (.iconst 0, 1) := dk_3 (dk_at dksX2_copy_0 17 rfl rfl)
theorem dX2_copy_18 : decode cX2_copy 18 = .ok (.bipush 12, 2) := dk_16 12 (dk_at dksX2_copy_0 18 rfl rfl)
theorem dX2_copy_20 : decode cX2_copy 20 = .ok (.invokestatic 25, 3) := dk_184 0 25 (dk_at dksX2_copy_0 20 rfl rfl)
theorem dX2_copy_23 : decode cX2_copy 23 = .ok (.aload_n 1, 1) := dk_43 (dk_at dksX2_copy_0 23 rfl rfl)
theorem dX2_copy_24 : decode cX2_copy 24 = .ok (.getfield 20, 3) := dk_180 0 20 (dk_at dksX2_copy_1 0 rfl rfl)
theorem dX2_copy_27 : decode cX2_copy 27 = .ok (.aload_n 0, 1) := dk_42 (dk_at dksX2_copy_1 3 rfl rfl)
theorem dX2_copy_28 : decode cX2_copy 28 = .ok (.getfield 20, 3) := dk_180 0 20 (dk_at dksX2_copy_1 4 rfl rfl)
theorem dX2_copy_31 : decode cX2_copy 31 = .ok (.invokevirtual 31, 3) := dk_182 0 31 (dk_at dksX2_copy_1 7 rfl rfl)
theorem dX2_copy_34 : decode cX2_copy 34 = .ok (.aload_n 1, 1) := dk_43 (dk_at dksX2_copy_1 10 rfl rfl)
theorem dX2_copy_35 : decode cX2_copy 35 = .ok (.aload_n 0, 1) := dk_42 (dk_at dksX2_copy_1 11 rfl rfl)
theorem dX2_copy_36 : decode cX2_copy 36 = .ok (.getfield 35, 3) := dk_180 0 35 (dk_at dksX2_copy_1 12 rfl rfl)
theorem dX2_copy_39 : decode cX2_copy 39 = .ok (.putfield 35, 3) := dk_181 0 35 (dk_at dksX2_copy_1 15 rfl rfl)
theorem dX2_copy_42 : decode cX2_copy 42 = .ok (.aload_n 1, 1) := dk_43 (dk_at dksX2_copy_1 18 rfl rfl)
theorem dX2_copy_43 : decode cX2_copy 43 = .ok (.aload_n 0, 1) := dk_42 (dk_at dksX2_copy_1 19 rfl rfl)
theorem dX2_copy_44 : decode cX2_copy 44 = .ok (.getfield 39, 3) := dk_180 0 39 (dk_at dksX2_copy_1 20 rfl rfl)
theorem dX2_copy_47 : decode cX2_copy 47 = .ok (.putfield 39, 3) := dk_181 0 39 (dk_at dksX2_copy_2 0 rfl rfl)
theorem dX2_copy_50 : decode cX2_copy 50 = .ok (.aload_n 1, 1) := dk_43 (dk_at dksX2_copy_2 3 rfl rfl)
theorem dX2_copy_51 : decode cX2_copy 51 = .ok (.aload_n 0, 1) := dk_42 (dk_at dksX2_copy_2 4 rfl rfl)
theorem dX2_copy_52 : decode cX2_copy 52 = .ok (.getfield 42, 3) := dk_180 0 42 (dk_at dksX2_copy_2 5 rfl rfl)
theorem dX2_copy_55 : decode cX2_copy 55 = .ok (.putfield 42, 3) := dk_181 0 42 (dk_at dksX2_copy_2 8 rfl rfl)
theorem dX2_copy_58 : decode cX2_copy 58 = .ok (.aload_n 1, 1) := dk_43 (dk_at dksX2_copy_2 11 rfl rfl)
theorem dX2_copy_59 : decode cX2_copy 59 = .ok (.areturn, 1) := dk_176 (dk_at dksX2_copy_2 12 rfl rfl)
abbrev cX2_size : ByteArray := prog_8_method_4_code
def yX2_size : MethodName := ⟨RX2, "size", "()I"⟩
def dkwX2_size_1 : List UInt8 := [96, 60, 132, 2, 1, 167, 255, 231, 27, 172]
abbrev dktX2_size_1 : List UInt8 := dkwX2_size_1 ++ []
def dkwX2_size_0 : List UInt8 := [3, 60, 3, 61, 28, 16, 12, 162, 0, 25, 27, 42, 28, 182, 0, 45, 153, 0, 7, 4, 167, 0, 4, 3]
abbrev dktX2_size_0 : List UInt8 := dkwX2_size_0 ++ dktX2_size_1
theorem dksX2_size_0 : cX2_size.data.toList.drop 0 = dktX2_size_0 := by decide +kernel
theorem dksX2_size_1 : cX2_size.data.toList.drop 24 = dktX2_size_1 := dk_seg dksX2_size_0 24 rfl rfl
theorem dX2_size_0 : decode cX2_size 0 = .ok (.iconst 0, 1) := dk_3 (dk_at dksX2_size_0 0 rfl rfl)
theorem dX2_size_1 : decode cX2_size 1 = .ok (.istore_n 1, 1) := dk_60 (dk_at dksX2_size_0 1 rfl rfl)
theorem dX2_size_2 : decode cX2_size 2 = .ok (.iconst 0, 1) := dk_3 (dk_at dksX2_size_0 2 rfl rfl)
theorem dX2_size_3 : decode cX2_size 3 = .ok (.istore_n 2, 1) := dk_61 (dk_at dksX2_size_0 3 rfl rfl)
theorem dX2_size_4 : decode cX2_size 4 = .ok (.iload_n 2, 1) := dk_28 (dk_at dksX2_size_0 4 rfl rfl)
theorem dX2_size_5 : decode cX2_size 5 = .ok (.bipush 12, 2) := dk_16 12 (dk_at dksX2_size_0 5 rfl rfl)
theorem dX2_size_7 : decode cX2_size 7 = .ok (.if_icmp .ge 25, 3) := dk_162 0 25 (dk_at dksX2_size_0 7 rfl rfl)
theorem dX2_size_10 : decode cX2_size 10 = .ok (.iload_n 1, 1) := dk_27 (dk_at dksX2_size_0 10 rfl rfl)
theorem dX2_size_11 : decode cX2_size 11 = .ok (.aload_n 0, 1) := dk_42 (dk_at dksX2_size_0 11 rfl rfl)
theorem dX2_size_12 : decode cX2_size 12 = .ok (.iload_n 2, 1) := dk_28 (dk_at dksX2_size_0 12 rfl rfl)
theorem dX2_size_13 : decode cX2_size 13 = .ok (.invokevirtual 45, 3) := dk_182 0 45 (dk_at dksX2_size_0 13 rfl rfl)
theorem dX2_size_16 : decode cX2_size 16 = .ok (.ifCond .eq 7, 3) := dk_153 0 7 (dk_at dksX2_size_0 16 rfl rfl)
theorem dX2_size_19 : decode cX2_size 19 = .ok (.iconst 1, 1) := dk_4 (dk_at dksX2_size_0 19 rfl rfl)
theorem dX2_size_20 : decode cX2_size 20 = .ok (.goto 4, 3) := dk_167 0 4 (dk_at dksX2_size_0 20 rfl rfl)
theorem dX2_size_23 : decode cX2_size 23 = .ok (.iconst 0, 1) := dk_3 (dk_at dksX2_size_0 23 rfl rfl)
theorem dX2_size_24 : decode cX2_size 24 = .ok (.iadd, 1) := dk_96 (dk_at dksX2_size_1 0 rfl rfl)
theorem dX2_size_25 : decode cX2_size 25 = .ok (.istore_n 1, 1) := dk_60 (dk_at dksX2_size_1 1 rfl rfl)
theorem dX2_size_26 : decode cX2_size 26 = .ok (.iinc 2 1, 3) := dk_132 2 1 (dk_at dksX2_size_1 2 rfl rfl)
theorem dX2_size_29 : decode cX2_size 29 = .ok (.goto (-25), 3) := dk_167 255 231 (dk_at dksX2_size_1 5 rfl rfl)
theorem dX2_size_32 : decode cX2_size 32 = .ok (.iload_n 1, 1) := dk_27 (dk_at dksX2_size_1 8 rfl rfl)
theorem dX2_size_33 : decode cX2_size 33 = .ok (.ireturn, 1) := dk_172 (dk_at dksX2_size_1 9 rfl rfl)
abbrev cX2_distance : ByteArray := prog_8_method_23_code
def yX2_distance : MethodName := ⟨RX2, "distance", "(II)I"⟩
def dkwX2_distance_0 : List UInt8 := [42, 180, 0, 11, 27, 50, 180, 0, 53, 42, 180, 0, 11, 28, 50, 180, 0, 53, 100, 184, 0, 142, 172]
abbrev dktX2_distance_0 : List UInt8 := dkwX2_distance_0 ++ []
theorem dksX2_distance_0 : cX2_distance.data.toList.drop 0 = dktX2_distance_0 := by decide +kernel
theorem dX2_distance_0 : decode cX2_distance 0 = .ok (.aload_n 0, 1) := dk_42 (dk_at dksX2_distance_0 0 rfl rfl)
theorem dX2_distance_1 : decode cX2_distance 1 = .ok (.getfield 11, 3) := dk_180 0 11 (dk_at dksX2_distance_0 1 rfl rfl)
theorem dX2_distance_4 : decode cX2_distance 4 = .ok (.iload_n 1, 1) := dk_27 (dk_at dksX2_distance_0 4 rfl rfl)
theorem dX2_distance_5 : decode cX2_distance 5 = .ok (.aaload, 1) := dk_50 (dk_at dksX2_distance_0 5 rfl rfl)
theorem dX2_distance_6 : decode cX2_distance 6 = .ok (.getfield 53, 3) := dk_180 0 53 (dk_at dksX2_distance_0 6 rfl rfl)
theorem dX2_distance_9 : decode cX2_distance 9 = .ok (.aload_n 0, 1) := dk_42 (dk_at dksX2_distance_0 9 rfl rfl)
theorem dX2_distance_10 : decode cX2_distance 10 = .ok (.getfield 11, 3) := dk_180 0 11 (dk_at dksX2_distance_0 10 rfl rfl)
theorem dX2_distance_13 : decode cX2_distance 13 = .ok (.iload_n 2, 1) := dk_28 (dk_at dksX2_distance_0 13 rfl rfl)
theorem dX2_distance_14 : decode cX2_distance 14 = .ok (.aaload, 1) := dk_50 (dk_at dksX2_distance_0 14 rfl rfl)
theorem dX2_distance_15 : decode cX2_distance 15 = .ok (.getfield 53, 3) := dk_180 0 53 (dk_at dksX2_distance_0 15 rfl rfl)
theorem dX2_distance_18 : decode cX2_distance 18 = .ok (.isub, 1) := dk_100 (dk_at dksX2_distance_0 18 rfl rfl)
theorem dX2_distance_19 : decode cX2_distance 19 = .ok (.invokestatic 142, 3) := dk_184 0 142 (dk_at dksX2_distance_0 19 rfl rfl)
theorem dX2_distance_22 : decode cX2_distance 22 = .ok (.ireturn, 1) := dk_172 (dk_at dksX2_distance_0 22 rfl rfl)
abbrev cX2_wrongValues_2 : ByteArray := prog_8_method_14_code
def yX2_wrongValues_2 : MethodName := ⟨RX2, "wrongValues", "()I"⟩
def dkwX2_wrongValues_2_0 : List UInt8 := [42, 42, 182, 0, 114, 182, 0, 118, 172]
abbrev dktX2_wrongValues_2_0 : List UInt8 := dkwX2_wrongValues_2_0 ++ []
theorem dksX2_wrongValues_2_0 : cX2_wrongValues_2.data.toList.drop 0 = dktX2_wrongValues_2_0 := by decide +kernel
theorem dX2_wrongValues_2_0 : decode cX2_wrongValues_2 0 = .ok (.aload_n 0, 1) := dk_42 (dk_at dksX2_wrongValues_2_0 0 rfl rfl)
theorem dX2_wrongValues_2_1 : decode cX2_wrongValues_2 1 = .ok (.aload_n 0, 1) := dk_42 (dk_at dksX2_wrongValues_2_0 1 rfl rfl)
theorem dX2_wrongValues_2_2 : decode cX2_wrongValues_2 2 = .ok (.invokevirtual 114, 3) := dk_182 0 114 (dk_at dksX2_wrongValues_2_0 2 rfl rfl)
theorem dX2_wrongValues_2_5 : decode cX2_wrongValues_2 5 = .ok (.invokevirtual 118, 3) := dk_182 0 118 (dk_at dksX2_wrongValues_2_0 5 rfl rfl)
theorem dX2_wrongValues_2_8 : decode cX2_wrongValues_2 8 = .ok (.ireturn, 1) := dk_172 (dk_at dksX2_wrongValues_2_0 8 rfl rfl)
abbrev cX2_chain : ByteArray := prog_8_method_18_code
def yX2_chain : MethodName := ⟨RX2, "chain", "()Ljava/util/List;"⟩
def dkwX2_chain_2 : List UInt8 := [42, 180, 0, 20, 180, 0, 99, 28, 46, 61, 167, 255, 214, 43, 176]
abbrev dktX2_chain_2 : List UInt8 := dkwX2_chain_2 ++ []
def dkwX2_chain_1 : List UInt8 := [43, 28, 184, 0, 74, 185, 0, 125, 2, 0, 154, 0, 27, 43, 28, 184, 0, 74, 185, 0, 129, 2, 0, 87]
abbrev dktX2_chain_1 : List UInt8 := dkwX2_chain_1 ++ dktX2_chain_2
def dkwX2_chain_0 : List UInt8 := [187, 0, 56, 89, 183, 0, 58, 76, 42, 180, 0, 20, 180, 0, 90, 61, 42, 28, 182, 0, 45, 153, 0, 40]
abbrev dktX2_chain_0 : List UInt8 := dkwX2_chain_0 ++ dktX2_chain_1
theorem dksX2_chain_0 : cX2_chain.data.toList.drop 0 = dktX2_chain_0 := by decide +kernel
theorem dksX2_chain_1 : cX2_chain.data.toList.drop 24 = dktX2_chain_1 := dk_seg dksX2_chain_0 24 rfl rfl
theorem dksX2_chain_2 : cX2_chain.data.toList.drop 48 = dktX2_chain_2 := dk_seg dksX2_chain_1 24 rfl rfl
theorem dX2_chain_0 : decode cX2_chain 0 = .ok (.new 56, 3) := dk_187 0 56 (dk_at dksX2_chain_0 0 rfl rfl)
theorem dX2_chain_3 : decode cX2_chain 3 = .ok (.dup, 1) := dk_89 (dk_at dksX2_chain_0 3 rfl rfl)
theorem dX2_chain_4 : decode cX2_chain 4 = .ok (.invokespecial 58, 3) := dk_183 0 58 (dk_at dksX2_chain_0 4 rfl rfl)
theorem dX2_chain_7 : decode cX2_chain 7 = .ok (.astore_n 1, 1) := dk_76 (dk_at dksX2_chain_0 7 rfl rfl)
theorem dX2_chain_8 : decode cX2_chain 8 = .ok (.aload_n 0, 1) := dk_42 (dk_at dksX2_chain_0 8 rfl rfl)
theorem dX2_chain_9 : decode cX2_chain 9 = .ok (.getfield 20, 3) := dk_180 0 20 (dk_at dksX2_chain_0 9 rfl rfl)
theorem dX2_chain_12 : decode cX2_chain 12 = .ok (.getfield 90, 3) := dk_180 0 90 (dk_at dksX2_chain_0 12 rfl rfl)
theorem dX2_chain_15 : decode cX2_chain 15 = .ok (.istore_n 2, 1) := dk_61 (dk_at dksX2_chain_0 15 rfl rfl)
theorem dX2_chain_16 : decode cX2_chain 16 = .ok (.aload_n 0, 1) := dk_42 (dk_at dksX2_chain_0 16 rfl rfl)
theorem dX2_chain_17 : decode cX2_chain 17 = .ok (.iload_n 2, 1) := dk_28 (dk_at dksX2_chain_0 17 rfl rfl)
theorem dX2_chain_18 : decode cX2_chain 18 = .ok (.invokevirtual 45, 3) := dk_182 0 45 (dk_at dksX2_chain_0 18 rfl rfl)
theorem dX2_chain_21 : decode cX2_chain 21 = .ok (.ifCond .eq 40, 3) := dk_153 0 40 (dk_at dksX2_chain_0 21 rfl rfl)
theorem dX2_chain_24 : decode cX2_chain 24 = .ok (.aload_n 1, 1) := dk_43 (dk_at dksX2_chain_1 0 rfl rfl)
theorem dX2_chain_25 : decode cX2_chain 25 = .ok (.iload_n 2, 1) := dk_28 (dk_at dksX2_chain_1 1 rfl rfl)
theorem dX2_chain_26 : decode cX2_chain 26 = .ok (.invokestatic 74, 3) := dk_184 0 74 (dk_at dksX2_chain_1 2 rfl rfl)
theorem dX2_chain_29 : decode cX2_chain 29 = .ok (.invokeinterface 125 2, 5) := by decide +kernel
theorem dX2_chain_34 : decode cX2_chain 34 = .ok (.ifCond .ne 27, 3) := dk_154 0 27 (dk_at dksX2_chain_1 10 rfl rfl)
theorem dX2_chain_37 : decode cX2_chain 37 = .ok (.aload_n 1, 1) := dk_43 (dk_at dksX2_chain_1 13 rfl rfl)
theorem dX2_chain_38 : decode cX2_chain 38 = .ok (.iload_n 2, 1) := dk_28 (dk_at dksX2_chain_1 14 rfl rfl)
theorem dX2_chain_39 : decode cX2_chain 39 = .ok (.invokestatic 74, 3) := dk_184 0 74 (dk_at dksX2_chain_1 15 rfl rfl)
theorem dX2_chain_42 : decode cX2_chain 42 = .ok (.invokeinterface 129 2, 5) := by decide +kernel
theorem dX2_chain_47 : decode cX2_chain 47 = .ok (.pop, 1) := dk_87 (dk_at dksX2_chain_1 23 rfl rfl)
theorem dX2_chain_48 : decode cX2_chain 48 = .ok (.aload_n 0, 1) := dk_42 (dk_at dksX2_chain_2 0 rfl rfl)
theorem dX2_chain_49 : decode cX2_chain 49 = .ok (.getfield 20, 3) := dk_180 0 20 (dk_at dksX2_chain_2 1 rfl rfl)
theorem dX2_chain_52 : decode cX2_chain 52 = .ok (.getfield 99, 3) := dk_180 0 99 (dk_at dksX2_chain_2 4 rfl rfl)
theorem dX2_chain_55 : decode cX2_chain 55 = .ok (.iload_n 2, 1) := dk_28 (dk_at dksX2_chain_2 7 rfl rfl)
theorem dX2_chain_56 : decode cX2_chain 56 = .ok (.iaload, 1) := dk_46 (dk_at dksX2_chain_2 8 rfl rfl)
theorem dX2_chain_57 : decode cX2_chain 57 = .ok (.istore_n 2, 1) := dk_61 (dk_at dksX2_chain_2 9 rfl rfl)
theorem dX2_chain_58 : decode cX2_chain 58 = .ok (.goto (-42), 3) := dk_167 255 214 (dk_at dksX2_chain_2 10 rfl rfl)
theorem dX2_chain_61 : decode cX2_chain 61 = .ok (.aload_n 1, 1) := dk_43 (dk_at dksX2_chain_2 13 rfl rfl)
theorem dX2_chain_62 : decode cX2_chain 62 = .ok (.areturn, 1) := dk_176 (dk_at dksX2_chain_2 14 rfl rfl)
abbrev cX2_hasCycle : ByteArray := prog_8_method_19_code
def yX2_hasCycle : MethodName := ⟨RX2, "hasCycle", "()Z"⟩
def dkwX2_hasCycle_2 : List UInt8 := [153, 0, 7, 4, 167, 0, 4, 3, 172]
abbrev dktX2_hasCycle_2 : List UInt8 := dkwX2_hasCycle_2 ++ []
def dkwX2_hasCycle_1 : List UInt8 := [185, 0, 59, 1, 0, 4, 100, 185, 0, 65, 2, 0, 192, 0, 69, 182, 0, 71, 46, 182, 0, 45]
abbrev dktX2_hasCycle_1 : List UInt8 := dkwX2_hasCycle_1 ++ dktX2_hasCycle_2
def dkwX2_hasCycle_0 : List UInt8 := [42, 182, 0, 131, 76, 43, 185, 0, 134, 1, 0, 154, 0, 42, 42, 42, 180, 0, 20, 180, 0, 99, 43, 43]
abbrev dktX2_hasCycle_0 : List UInt8 := dkwX2_hasCycle_0 ++ dktX2_hasCycle_1
theorem dksX2_hasCycle_0 : cX2_hasCycle.data.toList.drop 0 = dktX2_hasCycle_0 := by decide +kernel
theorem dksX2_hasCycle_1 : cX2_hasCycle.data.toList.drop 24 = dktX2_hasCycle_1 := dk_seg dksX2_hasCycle_0 24 rfl rfl
theorem dksX2_hasCycle_2 : cX2_hasCycle.data.toList.drop 46 = dktX2_hasCycle_2 := dk_seg dksX2_hasCycle_1 22 rfl rfl
theorem dX2_hasCycle_0 : decode cX2_hasCycle 0 = .ok (.aload_n 0, 1) := dk_42 (dk_at dksX2_hasCycle_0 0 rfl rfl)
theorem dX2_hasCycle_1 : decode cX2_hasCycle 1 = .ok (.invokevirtual 131, 3) := dk_182 0 131 (dk_at dksX2_hasCycle_0 1 rfl rfl)
theorem dX2_hasCycle_4 : decode cX2_hasCycle 4 = .ok (.astore_n 1, 1) := dk_76 (dk_at dksX2_hasCycle_0 4 rfl rfl)
theorem dX2_hasCycle_5 : decode cX2_hasCycle 5 = .ok (.aload_n 1, 1) := dk_43 (dk_at dksX2_hasCycle_0 5 rfl rfl)
theorem dX2_hasCycle_6 : decode cX2_hasCycle 6 = .ok (.invokeinterface 134 1, 5) := by decide +kernel
theorem dX2_hasCycle_11 : decode cX2_hasCycle 11 = .ok (.ifCond .ne 42, 3) := dk_154 0 42 (dk_at dksX2_hasCycle_0 11 rfl rfl)
theorem dX2_hasCycle_14 : decode cX2_hasCycle 14 = .ok (.aload_n 0, 1) := dk_42 (dk_at dksX2_hasCycle_0 14 rfl rfl)
theorem dX2_hasCycle_15 : decode cX2_hasCycle 15 = .ok (.aload_n 0, 1) := dk_42 (dk_at dksX2_hasCycle_0 15 rfl rfl)
theorem dX2_hasCycle_16 : decode cX2_hasCycle 16 = .ok (.getfield 20, 3) := dk_180 0 20 (dk_at dksX2_hasCycle_0 16 rfl rfl)
theorem dX2_hasCycle_19 : decode cX2_hasCycle 19 = .ok (.getfield 99, 3) := dk_180 0 99 (dk_at dksX2_hasCycle_0 19 rfl rfl)
theorem dX2_hasCycle_22 : decode cX2_hasCycle 22 = .ok (.aload_n 1, 1) := dk_43 (dk_at dksX2_hasCycle_0 22 rfl rfl)
theorem dX2_hasCycle_23 : decode cX2_hasCycle 23 = .ok (.aload_n 1, 1) := dk_43 (dk_at dksX2_hasCycle_0 23 rfl rfl)
theorem dX2_hasCycle_24 : decode cX2_hasCycle 24 = .ok (.invokeinterface 59 1, 5) := by decide +kernel
theorem dX2_hasCycle_29 : decode cX2_hasCycle 29 = .ok (.iconst 1, 1) := dk_4 (dk_at dksX2_hasCycle_1 5 rfl rfl)
theorem dX2_hasCycle_30 : decode cX2_hasCycle 30 = .ok (.isub, 1) := dk_100 (dk_at dksX2_hasCycle_1 6 rfl rfl)
theorem dX2_hasCycle_31 : decode cX2_hasCycle 31 = .ok (.invokeinterface 65 2, 5) := by decide +kernel
theorem dX2_hasCycle_36 : decode cX2_hasCycle 36 = .ok (.checkcast 69, 3) := dk_192 0 69 (dk_at dksX2_hasCycle_1 12 rfl rfl)
theorem dX2_hasCycle_39 : decode cX2_hasCycle 39 = .ok (.invokevirtual 71, 3) := dk_182 0 71 (dk_at dksX2_hasCycle_1 15 rfl rfl)
theorem dX2_hasCycle_42 : decode cX2_hasCycle 42 = .ok (.iaload, 1) := dk_46 (dk_at dksX2_hasCycle_1 18 rfl rfl)
theorem dX2_hasCycle_43 : decode cX2_hasCycle 43 = .ok (.invokevirtual 45, 3) := dk_182 0 45 (dk_at dksX2_hasCycle_1 19 rfl rfl)
theorem dX2_hasCycle_46 : decode cX2_hasCycle 46 = .ok (.ifCond .eq 7, 3) := dk_153 0 7 (dk_at dksX2_hasCycle_2 0 rfl rfl)
theorem dX2_hasCycle_49 : decode cX2_hasCycle 49 = .ok (.iconst 1, 1) := dk_4 (dk_at dksX2_hasCycle_2 3 rfl rfl)
theorem dX2_hasCycle_50 : decode cX2_hasCycle 50 = .ok (.goto 4, 3) := dk_167 0 4 (dk_at dksX2_hasCycle_2 4 rfl rfl)
theorem dX2_hasCycle_53 : decode cX2_hasCycle 53 = .ok (.iconst 0, 1) := dk_3 (dk_at dksX2_hasCycle_2 7 rfl rfl)
theorem dX2_hasCycle_54 : decode cX2_hasCycle 54 = .ok (.ireturn, 1) := dk_172 (dk_at dksX2_hasCycle_2 8 rfl rfl)
abbrev cX2_danglingPointers : ByteArray := prog_8_method_21_code
def yX2_danglingPointers : MethodName := ⟨RX2, "danglingPointers", "()I"⟩
def dkwX2_danglingPointers_3 : List UInt8 := [132, 2, 1, 167, 255, 209, 27, 172]
abbrev dktX2_danglingPointers_3 : List UInt8 := dkwX2_danglingPointers_3 ++ []
def dkwX2_danglingPointers_2 : List UInt8 := [180, 0, 99, 28, 46, 182, 0, 138, 42, 42, 180, 0, 20, 180, 0, 103, 28, 46, 182, 0, 138, 96, 96, 60]
abbrev dktX2_danglingPointers_2 : List UInt8 := dkwX2_danglingPointers_2 ++ dktX2_danglingPointers_3
def dkwX2_danglingPointers_1 : List UInt8 := [3, 61, 28, 16, 12, 162, 0, 47, 42, 28, 182, 0, 45, 153, 0, 33, 27, 42, 42, 180, 0, 20]
abbrev dktX2_danglingPointers_1 : List UInt8 := dkwX2_danglingPointers_1 ++ dktX2_danglingPointers_2
def dkwX2_danglingPointers_0 : List UInt8 := [42, 42, 180, 0, 20, 180, 0, 90, 182, 0, 138, 42, 42, 180, 0, 20, 180, 0, 93, 182, 0, 138, 96, 60]
abbrev dktX2_danglingPointers_0 : List UInt8 := dkwX2_danglingPointers_0 ++ dktX2_danglingPointers_1
theorem dksX2_danglingPointers_0 : cX2_danglingPointers.data.toList.drop 0 = dktX2_danglingPointers_0 := by decide +kernel
theorem dksX2_danglingPointers_1 : cX2_danglingPointers.data.toList.drop 24 = dktX2_danglingPointers_1 := dk_seg dksX2_danglingPointers_0 24 rfl rfl
theorem dksX2_danglingPointers_2 : cX2_danglingPointers.data.toList.drop 46 = dktX2_danglingPointers_2 := dk_seg dksX2_danglingPointers_1 22 rfl rfl
theorem dksX2_danglingPointers_3 : cX2_danglingPointers.data.toList.drop 70 = dktX2_danglingPointers_3 := dk_seg dksX2_danglingPointers_2 24 rfl rfl
theorem dX2_danglingPointers_0 : decode cX2_danglingPointers 0 = .ok (.aload_n 0, 1) := dk_42 (dk_at dksX2_danglingPointers_0 0 rfl rfl)
theorem dX2_danglingPointers_1 : decode cX2_danglingPointers 1 = .ok (.aload_n 0, 1) := dk_42 (dk_at dksX2_danglingPointers_0 1 rfl rfl)
theorem dX2_danglingPointers_2 : decode cX2_danglingPointers 2 = .ok (.getfield 20, 3) := dk_180 0 20 (dk_at dksX2_danglingPointers_0 2 rfl rfl)
theorem dX2_danglingPointers_5 : decode cX2_danglingPointers 5 = .ok (.getfield 90, 3) := dk_180 0 90 (dk_at dksX2_danglingPointers_0 5 rfl rfl)
theorem dX2_danglingPointers_8 : decode cX2_danglingPointers 8 = .ok (.invokevirtual 138, 3) := dk_182 0 138 (dk_at dksX2_danglingPointers_0 8 rfl rfl)
theorem dX2_danglingPointers_11 : decode cX2_danglingPointers 11 = .ok (.aload_n 0, 1) := dk_42 (dk_at dksX2_danglingPointers_0 11 rfl rfl)
theorem dX2_danglingPointers_12 : decode cX2_danglingPointers 12 = .ok (.aload_n 0, 1) := dk_42 (dk_at dksX2_danglingPointers_0 12 rfl rfl)
theorem dX2_danglingPointers_13 : decode cX2_danglingPointers 13 = .ok (.getfield 20, 3) := dk_180 0 20 (dk_at dksX2_danglingPointers_0 13 rfl rfl)
theorem dX2_danglingPointers_16 : decode cX2_danglingPointers 16 = .ok (.getfield 93, 3) := dk_180 0 93 (dk_at dksX2_danglingPointers_0 16 rfl rfl)
theorem dX2_danglingPointers_19 : decode cX2_danglingPointers 19 = .ok (.invokevirtual 138, 3) := dk_182 0 138 (dk_at dksX2_danglingPointers_0 19 rfl rfl)
theorem dX2_danglingPointers_22 : decode cX2_danglingPointers 22 = .ok (.iadd, 1) := dk_96 (dk_at dksX2_danglingPointers_0 22 rfl rfl)
theorem dX2_danglingPointers_23 : decode cX2_danglingPointers 23 = .ok (.istore_n 1, 1) := dk_60 (dk_at dksX2_danglingPointers_0 23 rfl rfl)
theorem dX2_danglingPointers_24 : decode cX2_danglingPointers 24 = .ok (.iconst 0, 1) := dk_3 (dk_at dksX2_danglingPointers_1 0 rfl rfl)
theorem dX2_danglingPointers_25 : decode cX2_danglingPointers 25 = .ok (.istore_n 2, 1) := dk_61 (dk_at dksX2_danglingPointers_1 1 rfl rfl)
theorem dX2_danglingPointers_26 : decode cX2_danglingPointers 26 = .ok (.iload_n 2, 1) := dk_28 (dk_at dksX2_danglingPointers_1 2 rfl rfl)
theorem dX2_danglingPointers_27 : decode cX2_danglingPointers 27 = .ok (.bipush 12, 2) := dk_16 12 (dk_at dksX2_danglingPointers_1 3 rfl rfl)
theorem dX2_danglingPointers_29 : decode cX2_danglingPointers 29 = .ok (.if_icmp .ge 47, 3) := dk_162 0 47 (dk_at dksX2_danglingPointers_1 5 rfl rfl)
theorem dX2_danglingPointers_32 : decode cX2_danglingPointers 32 = .ok (.aload_n 0, 1) := dk_42 (dk_at dksX2_danglingPointers_1 8 rfl rfl)
theorem dX2_danglingPointers_33 : decode cX2_danglingPointers 33 = .ok (.iload_n 2, 1) := dk_28 (dk_at dksX2_danglingPointers_1 9 rfl rfl)
theorem dX2_danglingPointers_34 : decode cX2_danglingPointers 34 = .ok (.invokevirtual 45, 3) := dk_182 0 45 (dk_at dksX2_danglingPointers_1 10 rfl rfl)
theorem dX2_danglingPointers_37 : decode cX2_danglingPointers 37 = .ok (.ifCond .eq 33, 3) := dk_153 0 33 (dk_at dksX2_danglingPointers_1 13 rfl rfl)
theorem dX2_danglingPointers_40 : decode cX2_danglingPointers 40 = .ok (.iload_n 1, 1) := dk_27 (dk_at dksX2_danglingPointers_1 16 rfl rfl)
theorem dX2_danglingPointers_41 : decode cX2_danglingPointers 41 = .ok (.aload_n 0, 1) := dk_42 (dk_at dksX2_danglingPointers_1 17 rfl rfl)
theorem dX2_danglingPointers_42 : decode cX2_danglingPointers 42 = .ok (.aload_n 0, 1) := dk_42 (dk_at dksX2_danglingPointers_1 18 rfl rfl)
theorem dX2_danglingPointers_43 : decode cX2_danglingPointers 43 = .ok (.getfield 20, 3) := dk_180 0 20 (dk_at dksX2_danglingPointers_1 19 rfl rfl)
theorem dX2_danglingPointers_46 : decode cX2_danglingPointers 46 = .ok (.getfield 99, 3) := dk_180 0 99 (dk_at dksX2_danglingPointers_2 0 rfl rfl)
theorem dX2_danglingPointers_49 : decode cX2_danglingPointers 49 = .ok (.iload_n 2, 1) := dk_28 (dk_at dksX2_danglingPointers_2 3 rfl rfl)
theorem dX2_danglingPointers_50 : decode cX2_danglingPointers 50 = .ok (.iaload, 1) := dk_46 (dk_at dksX2_danglingPointers_2 4 rfl rfl)
theorem dX2_danglingPointers_51 : decode cX2_danglingPointers 51 = .ok (.invokevirtual 138, 3) := dk_182 0 138 (dk_at dksX2_danglingPointers_2 5 rfl rfl)
theorem dX2_danglingPointers_54 : decode cX2_danglingPointers 54 = .ok (.aload_n 0, 1) := dk_42 (dk_at dksX2_danglingPointers_2 8 rfl rfl)
theorem dX2_danglingPointers_55 : decode cX2_danglingPointers 55 = .ok (.aload_n 0, 1) := dk_42 (dk_at dksX2_danglingPointers_2 9 rfl rfl)
theorem dX2_danglingPointers_56 : decode cX2_danglingPointers 56 = .ok (.getfield 20, 3) := dk_180 0 20 (dk_at dksX2_danglingPointers_2 10 rfl rfl)
theorem dX2_danglingPointers_59 : decode cX2_danglingPointers 59 = .ok (.getfield 103, 3) := dk_180 0 103 (dk_at dksX2_danglingPointers_2 13 rfl rfl)
theorem dX2_danglingPointers_62 : decode cX2_danglingPointers 62 = .ok (.iload_n 2, 1) := dk_28 (dk_at dksX2_danglingPointers_2 16 rfl rfl)
theorem dX2_danglingPointers_63 : decode cX2_danglingPointers 63 = .ok (.iaload, 1) := dk_46 (dk_at dksX2_danglingPointers_2 17 rfl rfl)
theorem dX2_danglingPointers_64 : decode cX2_danglingPointers 64 = .ok (.invokevirtual 138, 3) := dk_182 0 138 (dk_at dksX2_danglingPointers_2 18 rfl rfl)
theorem dX2_danglingPointers_67 : decode cX2_danglingPointers 67 = .ok (.iadd, 1) := dk_96 (dk_at dksX2_danglingPointers_2 21 rfl rfl)
theorem dX2_danglingPointers_68 : decode cX2_danglingPointers 68 = .ok (.iadd, 1) := dk_96 (dk_at dksX2_danglingPointers_2 22 rfl rfl)
theorem dX2_danglingPointers_69 : decode cX2_danglingPointers 69 = .ok (.istore_n 1, 1) := dk_60 (dk_at dksX2_danglingPointers_2 23 rfl rfl)
theorem dX2_danglingPointers_70 : decode cX2_danglingPointers 70 = .ok (.iinc 2 1, 3) := dk_132 2 1 (dk_at dksX2_danglingPointers_3 0 rfl rfl)
theorem dX2_danglingPointers_73 : decode cX2_danglingPointers 73 = .ok (.goto (-47), 3) := dk_167 255 209 (dk_at dksX2_danglingPointers_3 3 rfl rfl)
theorem dX2_danglingPointers_76 : decode cX2_danglingPointers 76 = .ok (.iload_n 1, 1) := dk_27 (dk_at dksX2_danglingPointers_3 6 rfl rfl)
theorem dX2_danglingPointers_77 : decode cX2_danglingPointers 77 = .ok (.ireturn, 1) := dk_172 (dk_at dksX2_danglingPointers_3 7 rfl rfl)
abbrev cX2_danglingAt : ByteArray := prog_8_method_20_code
def yX2_danglingAt : MethodName := ⟨RX2, "danglingAt", "(I)I"⟩
def dkwX2_danglingAt_0 : List UInt8 := [27, 2, 159, 0, 16, 42, 180, 0, 11, 27, 50, 199, 0, 7, 4, 167, 0, 4, 3, 172]
abbrev dktX2_danglingAt_0 : List UInt8 := dkwX2_danglingAt_0 ++ []
theorem dksX2_danglingAt_0 : cX2_danglingAt.data.toList.drop 0 = dktX2_danglingAt_0 := by decide +kernel
theorem dX2_danglingAt_0 : decode cX2_danglingAt 0 = .ok (.iload_n 1, 1) := dk_27 (dk_at dksX2_danglingAt_0 0 rfl rfl)
theorem dX2_danglingAt_1 : decode cX2_danglingAt 1 = .ok (.iconst (-1), 1) := dk_2 (dk_at dksX2_danglingAt_0 1 rfl rfl)
theorem dX2_danglingAt_2 : decode cX2_danglingAt 2 = .ok (.if_icmp .eq 16, 3) := dk_159 0 16 (dk_at dksX2_danglingAt_0 2 rfl rfl)
theorem dX2_danglingAt_5 : decode cX2_danglingAt 5 = .ok (.aload_n 0, 1) := dk_42 (dk_at dksX2_danglingAt_0 5 rfl rfl)
theorem dX2_danglingAt_6 : decode cX2_danglingAt 6 = .ok (.getfield 11, 3) := dk_180 0 11 (dk_at dksX2_danglingAt_0 6 rfl rfl)
theorem dX2_danglingAt_9 : decode cX2_danglingAt 9 = .ok (.iload_n 1, 1) := dk_27 (dk_at dksX2_danglingAt_0 9 rfl rfl)
theorem dX2_danglingAt_10 : decode cX2_danglingAt 10 = .ok (.aaload, 1) := dk_50 (dk_at dksX2_danglingAt_0 10 rfl rfl)
theorem dX2_danglingAt_11 : decode cX2_danglingAt 11 = .ok (.ifnonnull 7, 3) := dk_199 0 7 (dk_at dksX2_danglingAt_0 11 rfl rfl)
theorem dX2_danglingAt_14 : decode cX2_danglingAt 14 = .ok (.iconst 1, 1) := dk_4 (dk_at dksX2_danglingAt_0 14 rfl rfl)
theorem dX2_danglingAt_15 : decode cX2_danglingAt 15 = .ok (.goto 4, 3) := dk_167 0 4 (dk_at dksX2_danglingAt_0 15 rfl rfl)
theorem dX2_danglingAt_18 : decode cX2_danglingAt 18 = .ok (.iconst 0, 1) := dk_3 (dk_at dksX2_danglingAt_0 18 rfl rfl)
theorem dX2_danglingAt_19 : decode cX2_danglingAt 19 = .ok (.ireturn, 1) := dk_172 (dk_at dksX2_danglingAt_0 19 rfl rfl)
abbrev cX2_descents : ByteArray := prog_8_method_22_code
def yX2_descents : MethodName := ⟨RX2, "descents", "()I"⟩
def dkwX2_descents_3 : List UInt8 := [96, 61, 132, 3, 1, 167, 255, 188, 28, 172]
abbrev dktX2_descents_3 : List UInt8 := dkwX2_descents_3 ++ []
def dkwX2_descents_2 : List UInt8 := [100, 185, 0, 65, 2, 0, 192, 0, 69, 182, 0, 71, 50, 180, 0, 53, 162, 0, 7, 4, 167, 0, 4, 3]
abbrev dktX2_descents_2 : List UInt8 := dkwX2_descents_2 ++ dktX2_descents_3
def dkwX2_descents_1 : List UInt8 := [43, 29, 185, 0, 65, 2, 0, 192, 0, 69, 182, 0, 71, 50, 180, 0, 53, 42, 180, 0, 11, 43, 29, 4]
abbrev dktX2_descents_1 : List UInt8 := dkwX2_descents_1 ++ dktX2_descents_2
def dkwX2_descents_0 : List UInt8 := [42, 182, 0, 131, 76, 3, 61, 4, 62, 29, 43, 185, 0, 59, 1, 0, 162, 0, 64, 28, 42, 180, 0, 11]
abbrev dktX2_descents_0 : List UInt8 := dkwX2_descents_0 ++ dktX2_descents_1
theorem dksX2_descents_0 : cX2_descents.data.toList.drop 0 = dktX2_descents_0 := by decide +kernel
theorem dksX2_descents_1 : cX2_descents.data.toList.drop 24 = dktX2_descents_1 := dk_seg dksX2_descents_0 24 rfl rfl
theorem dksX2_descents_2 : cX2_descents.data.toList.drop 48 = dktX2_descents_2 := dk_seg dksX2_descents_1 24 rfl rfl
theorem dksX2_descents_3 : cX2_descents.data.toList.drop 72 = dktX2_descents_3 := dk_seg dksX2_descents_2 24 rfl rfl
theorem dX2_descents_0 : decode cX2_descents 0 = .ok (.aload_n 0, 1) := dk_42 (dk_at dksX2_descents_0 0 rfl rfl)
theorem dX2_descents_1 : decode cX2_descents 1 = .ok (.invokevirtual 131, 3) := dk_182 0 131 (dk_at dksX2_descents_0 1 rfl rfl)
theorem dX2_descents_4 : decode cX2_descents 4 = .ok (.astore_n 1, 1) := dk_76 (dk_at dksX2_descents_0 4 rfl rfl)
theorem dX2_descents_5 : decode cX2_descents 5 = .ok (.iconst 0, 1) := dk_3 (dk_at dksX2_descents_0 5 rfl rfl)
theorem dX2_descents_6 : decode cX2_descents 6 = .ok (.istore_n 2, 1) := dk_61 (dk_at dksX2_descents_0 6 rfl rfl)
theorem dX2_descents_7 : decode cX2_descents 7 = .ok (.iconst 1, 1) := dk_4 (dk_at dksX2_descents_0 7 rfl rfl)
theorem dX2_descents_8 : decode cX2_descents 8 = .ok (.istore_n 3, 1) := dk_62 (dk_at dksX2_descents_0 8 rfl rfl)
theorem dX2_descents_9 : decode cX2_descents 9 = .ok (.iload_n 3, 1) := dk_29 (dk_at dksX2_descents_0 9 rfl rfl)
theorem dX2_descents_10 : decode cX2_descents 10 = .ok (.aload_n 1, 1) := dk_43 (dk_at dksX2_descents_0 10 rfl rfl)
theorem dX2_descents_11 : decode cX2_descents 11 = .ok (.invokeinterface 59 1, 5) := by decide +kernel
theorem dX2_descents_16 : decode cX2_descents 16 = .ok (.if_icmp .ge 64, 3) := dk_162 0 64 (dk_at dksX2_descents_0 16 rfl rfl)
theorem dX2_descents_19 : decode cX2_descents 19 = .ok (.iload_n 2, 1) := dk_28 (dk_at dksX2_descents_0 19 rfl rfl)
theorem dX2_descents_20 : decode cX2_descents 20 = .ok (.aload_n 0, 1) := dk_42 (dk_at dksX2_descents_0 20 rfl rfl)
theorem dX2_descents_21 : decode cX2_descents 21 = .ok (.getfield 11, 3) := dk_180 0 11 (dk_at dksX2_descents_0 21 rfl rfl)
theorem dX2_descents_24 : decode cX2_descents 24 = .ok (.aload_n 1, 1) := dk_43 (dk_at dksX2_descents_1 0 rfl rfl)
theorem dX2_descents_25 : decode cX2_descents 25 = .ok (.iload_n 3, 1) := dk_29 (dk_at dksX2_descents_1 1 rfl rfl)
theorem dX2_descents_26 : decode cX2_descents 26 = .ok (.invokeinterface 65 2, 5) := by decide +kernel
theorem dX2_descents_31 : decode cX2_descents 31 = .ok (.checkcast 69, 3) := dk_192 0 69 (dk_at dksX2_descents_1 7 rfl rfl)
theorem dX2_descents_34 : decode cX2_descents 34 = .ok (.invokevirtual 71, 3) := dk_182 0 71 (dk_at dksX2_descents_1 10 rfl rfl)
theorem dX2_descents_37 : decode cX2_descents 37 = .ok (.aaload, 1) := dk_50 (dk_at dksX2_descents_1 13 rfl rfl)
theorem dX2_descents_38 : decode cX2_descents 38 = .ok (.getfield 53, 3) := dk_180 0 53 (dk_at dksX2_descents_1 14 rfl rfl)
theorem dX2_descents_41 : decode cX2_descents 41 = .ok (.aload_n 0, 1) := dk_42 (dk_at dksX2_descents_1 17 rfl rfl)
theorem dX2_descents_42 : decode cX2_descents 42 = .ok (.getfield 11, 3) := dk_180 0 11 (dk_at dksX2_descents_1 18 rfl rfl)
theorem dX2_descents_45 : decode cX2_descents 45 = .ok (.aload_n 1, 1) := dk_43 (dk_at dksX2_descents_1 21 rfl rfl)
theorem dX2_descents_46 : decode cX2_descents 46 = .ok (.iload_n 3, 1) := dk_29 (dk_at dksX2_descents_1 22 rfl rfl)
theorem dX2_descents_47 : decode cX2_descents 47 = .ok (.iconst 1, 1) := dk_4 (dk_at dksX2_descents_1 23 rfl rfl)
theorem dX2_descents_48 : decode cX2_descents 48 = .ok (.isub, 1) := dk_100 (dk_at dksX2_descents_2 0 rfl rfl)
theorem dX2_descents_49 : decode cX2_descents 49 = .ok (.invokeinterface 65 2, 5) := by decide +kernel
theorem dX2_descents_54 : decode cX2_descents 54 = .ok (.checkcast 69, 3) := dk_192 0 69 (dk_at dksX2_descents_2 6 rfl rfl)
theorem dX2_descents_57 : decode cX2_descents 57 = .ok (.invokevirtual 71, 3) := dk_182 0 71 (dk_at dksX2_descents_2 9 rfl rfl)
theorem dX2_descents_60 : decode cX2_descents 60 = .ok (.aaload, 1) := dk_50 (dk_at dksX2_descents_2 12 rfl rfl)
theorem dX2_descents_61 : decode cX2_descents 61 = .ok (.getfield 53, 3) := dk_180 0 53 (dk_at dksX2_descents_2 13 rfl rfl)
theorem dX2_descents_64 : decode cX2_descents 64 = .ok (.if_icmp .ge 7, 3) := dk_162 0 7 (dk_at dksX2_descents_2 16 rfl rfl)
theorem dX2_descents_67 : decode cX2_descents 67 = .ok (.iconst 1, 1) := dk_4 (dk_at dksX2_descents_2 19 rfl rfl)
theorem dX2_descents_68 : decode cX2_descents 68 = .ok (.goto 4, 3) := dk_167 0 4 (dk_at dksX2_descents_2 20 rfl rfl)
theorem dX2_descents_71 : decode cX2_descents 71 = .ok (.iconst 0, 1) := dk_3 (dk_at dksX2_descents_2 23 rfl rfl)
theorem dX2_descents_72 : decode cX2_descents 72 = .ok (.iadd, 1) := dk_96 (dk_at dksX2_descents_3 0 rfl rfl)
theorem dX2_descents_73 : decode cX2_descents 73 = .ok (.istore_n 2, 1) := dk_61 (dk_at dksX2_descents_3 1 rfl rfl)
theorem dX2_descents_74 : decode cX2_descents 74 = .ok (.iinc 3 1, 3) := dk_132 3 1 (dk_at dksX2_descents_3 2 rfl rfl)
theorem dX2_descents_77 : decode cX2_descents 77 = .ok (.goto (-68), 3) := dk_167 255 188 (dk_at dksX2_descents_3 5 rfl rfl)
theorem dX2_descents_80 : decode cX2_descents 80 = .ok (.iload_n 2, 1) := dk_28 (dk_at dksX2_descents_3 8 rfl rfl)
theorem dX2_descents_81 : decode cX2_descents 81 = .ok (.ireturn, 1) := dk_172 (dk_at dksX2_descents_3 9 rfl rfl)
abbrev cX2_faultyInn : ByteArray := prog_8_method_17_code
def yX2_faultyInn : MethodName := ⟨RX2, "faultyInn", "(LInnRoad$Links;)I"⟩
def dkwX2_faultyInn_1 : List UInt8 := [158, 0, 5, 28, 172, 132, 2, 1, 167, 255, 228, 2, 172]
abbrev dktX2_faultyInn_1 : List UInt8 := dkwX2_faultyInn_1 ++ []
def dkwX2_faultyInn_0 : List UInt8 := [3, 61, 28, 16, 12, 162, 0, 28, 42, 28, 182, 0, 45, 153, 0, 14, 42, 28, 43, 182, 0, 110]
abbrev dktX2_faultyInn_0 : List UInt8 := dkwX2_faultyInn_0 ++ dktX2_faultyInn_1
theorem dksX2_faultyInn_0 : cX2_faultyInn.data.toList.drop 0 = dktX2_faultyInn_0 := by decide +kernel
theorem dksX2_faultyInn_1 : cX2_faultyInn.data.toList.drop 22 = dktX2_faultyInn_1 := dk_seg dksX2_faultyInn_0 22 rfl rfl
theorem dX2_faultyInn_0 : decode cX2_faultyInn 0 = .ok (.iconst 0, 1) := dk_3 (dk_at dksX2_faultyInn_0 0 rfl rfl)
theorem dX2_faultyInn_1 : decode cX2_faultyInn 1 = .ok (.istore_n 2, 1) := dk_61 (dk_at dksX2_faultyInn_0 1 rfl rfl)
theorem dX2_faultyInn_2 : decode cX2_faultyInn 2 = .ok (.iload_n 2, 1) := dk_28 (dk_at dksX2_faultyInn_0 2 rfl rfl)
theorem dX2_faultyInn_3 : decode cX2_faultyInn 3 = .ok (.bipush 12, 2) := dk_16 12 (dk_at dksX2_faultyInn_0 3 rfl rfl)
theorem dX2_faultyInn_5 : decode cX2_faultyInn 5 = .ok (.if_icmp .ge 28, 3) := dk_162 0 28 (dk_at dksX2_faultyInn_0 5 rfl rfl)
theorem dX2_faultyInn_8 : decode cX2_faultyInn 8 = .ok (.aload_n 0, 1) := dk_42 (dk_at dksX2_faultyInn_0 8 rfl rfl)
theorem dX2_faultyInn_9 : decode cX2_faultyInn 9 = .ok (.iload_n 2, 1) := dk_28 (dk_at dksX2_faultyInn_0 9 rfl rfl)
theorem dX2_faultyInn_10 : decode cX2_faultyInn 10 = .ok (.invokevirtual 45, 3) := dk_182 0 45 (dk_at dksX2_faultyInn_0 10 rfl rfl)
theorem dX2_faultyInn_13 : decode cX2_faultyInn 13 = .ok (.ifCond .eq 14, 3) := dk_153 0 14 (dk_at dksX2_faultyInn_0 13 rfl rfl)
theorem dX2_faultyInn_16 : decode cX2_faultyInn 16 = .ok (.aload_n 0, 1) := dk_42 (dk_at dksX2_faultyInn_0 16 rfl rfl)
theorem dX2_faultyInn_17 : decode cX2_faultyInn 17 = .ok (.iload_n 2, 1) := dk_28 (dk_at dksX2_faultyInn_0 17 rfl rfl)
theorem dX2_faultyInn_18 : decode cX2_faultyInn 18 = .ok (.aload_n 1, 1) := dk_43 (dk_at dksX2_faultyInn_0 18 rfl rfl)
theorem dX2_faultyInn_19 : decode cX2_faultyInn 19 = .ok (.invokevirtual 110, 3) := dk_182 0 110 (dk_at dksX2_faultyInn_0 19 rfl rfl)
theorem dX2_faultyInn_22 : decode cX2_faultyInn 22 = .ok (.ifCond .le 5, 3) := dk_158 0 5 (dk_at dksX2_faultyInn_1 0 rfl rfl)
theorem dX2_faultyInn_25 : decode cX2_faultyInn 25 = .ok (.iload_n 2, 1) := dk_28 (dk_at dksX2_faultyInn_1 3 rfl rfl)
theorem dX2_faultyInn_26 : decode cX2_faultyInn 26 = .ok (.ireturn, 1) := dk_172 (dk_at dksX2_faultyInn_1 4 rfl rfl)
theorem dX2_faultyInn_27 : decode cX2_faultyInn 27 = .ok (.iinc 2 1, 3) := dk_132 2 1 (dk_at dksX2_faultyInn_1 5 rfl rfl)
theorem dX2_faultyInn_30 : decode cX2_faultyInn 30 = .ok (.goto (-28), 3) := dk_167 255 228 (dk_at dksX2_faultyInn_1 8 rfl rfl)
theorem dX2_faultyInn_33 : decode cX2_faultyInn 33 = .ok (.iconst (-1), 1) := dk_2 (dk_at dksX2_faultyInn_1 11 rfl rfl)
theorem dX2_faultyInn_34 : decode cX2_faultyInn 34 = .ok (.ireturn, 1) := dk_172 (dk_at dksX2_faultyInn_1 12 rfl rfl)
abbrev cX2_emptyPlace : ByteArray := prog_8_method_7_code
def yX2_emptyPlace : MethodName := ⟨RX2, "emptyPlace", "()I"⟩
def dkwX2_emptyPlace_1 : List UInt8 := [16, 12, 162, 0, 7, 27, 167, 0, 4, 2, 172]
abbrev dktX2_emptyPlace_1 : List UInt8 := dkwX2_emptyPlace_1 ++ []
def dkwX2_emptyPlace_0 : List UInt8 := [3, 60, 27, 16, 12, 162, 0, 17, 42, 27, 182, 0, 45, 153, 0, 9, 132, 1, 1, 167, 255, 239, 27]
abbrev dktX2_emptyPlace_0 : List UInt8 := dkwX2_emptyPlace_0 ++ dktX2_emptyPlace_1
theorem dksX2_emptyPlace_0 : cX2_emptyPlace.data.toList.drop 0 = dktX2_emptyPlace_0 := by decide +kernel
theorem dksX2_emptyPlace_1 : cX2_emptyPlace.data.toList.drop 23 = dktX2_emptyPlace_1 := dk_seg dksX2_emptyPlace_0 23 rfl rfl
theorem dX2_emptyPlace_0 : decode cX2_emptyPlace 0 = .ok (.iconst 0, 1) := dk_3 (dk_at dksX2_emptyPlace_0 0 rfl rfl)
theorem dX2_emptyPlace_1 : decode cX2_emptyPlace 1 = .ok (.istore_n 1, 1) := dk_60 (dk_at dksX2_emptyPlace_0 1 rfl rfl)
theorem dX2_emptyPlace_2 : decode cX2_emptyPlace 2 = .ok (.iload_n 1, 1) := dk_27 (dk_at dksX2_emptyPlace_0 2 rfl rfl)
theorem dX2_emptyPlace_3 : decode cX2_emptyPlace 3 = .ok (.bipush 12, 2) := dk_16 12 (dk_at dksX2_emptyPlace_0 3 rfl rfl)
theorem dX2_emptyPlace_5 : decode cX2_emptyPlace 5 = .ok (.if_icmp .ge 17, 3) := dk_162 0 17 (dk_at dksX2_emptyPlace_0 5 rfl rfl)
theorem dX2_emptyPlace_8 : decode cX2_emptyPlace 8 = .ok (.aload_n 0, 1) := dk_42 (dk_at dksX2_emptyPlace_0 8 rfl rfl)
theorem dX2_emptyPlace_9 : decode cX2_emptyPlace 9 = .ok (.iload_n 1, 1) := dk_27 (dk_at dksX2_emptyPlace_0 9 rfl rfl)
theorem dX2_emptyPlace_10 : decode cX2_emptyPlace 10 = .ok (.invokevirtual 45, 3) := dk_182 0 45 (dk_at dksX2_emptyPlace_0 10 rfl rfl)
theorem dX2_emptyPlace_13 : decode cX2_emptyPlace 13 = .ok (.ifCond .eq 9, 3) := dk_153 0 9 (dk_at dksX2_emptyPlace_0 13 rfl rfl)
theorem dX2_emptyPlace_16 : decode cX2_emptyPlace 16 = .ok (.iinc 1 1, 3) := dk_132 1 1 (dk_at dksX2_emptyPlace_0 16 rfl rfl)
theorem dX2_emptyPlace_19 : decode cX2_emptyPlace 19 = .ok (.goto (-17), 3) := dk_167 255 239 (dk_at dksX2_emptyPlace_0 19 rfl rfl)
theorem dX2_emptyPlace_22 : decode cX2_emptyPlace 22 = .ok (.iload_n 1, 1) := dk_27 (dk_at dksX2_emptyPlace_0 22 rfl rfl)
theorem dX2_emptyPlace_23 : decode cX2_emptyPlace 23 = .ok (.bipush 12, 2) := dk_16 12 (dk_at dksX2_emptyPlace_1 0 rfl rfl)
theorem dX2_emptyPlace_25 : decode cX2_emptyPlace 25 = .ok (.if_icmp .ge 7, 3) := dk_162 0 7 (dk_at dksX2_emptyPlace_1 2 rfl rfl)
theorem dX2_emptyPlace_28 : decode cX2_emptyPlace 28 = .ok (.iload_n 1, 1) := dk_27 (dk_at dksX2_emptyPlace_1 5 rfl rfl)
theorem dX2_emptyPlace_29 : decode cX2_emptyPlace 29 = .ok (.goto 4, 3) := dk_167 0 4 (dk_at dksX2_emptyPlace_1 6 rfl rfl)
theorem dX2_emptyPlace_32 : decode cX2_emptyPlace 32 = .ok (.iconst (-1), 1) := dk_2 (dk_at dksX2_emptyPlace_1 9 rfl rfl)
theorem dX2_emptyPlace_33 : decode cX2_emptyPlace 33 = .ok (.ireturn, 1) := dk_172 (dk_at dksX2_emptyPlace_1 10 rfl rfl)
abbrev cX2_repairedValue : ByteArray := prog_8_method_16_code
def yX2_repairedValue : MethodName := ⟨RX2, "repairedValue", "()I"⟩
def dkwX2_repairedValue_3 : List UInt8 := [28, 46, 159, 0, 12, 43, 180, 0, 99, 28, 46, 167, 0, 9, 43, 180, 0, 103, 28, 46, 172]
abbrev dktX2_repairedValue_3 : List UInt8 := dkwX2_repairedValue_3 ++ []
def dkwX2_repairedValue_2 : List UInt8 := [61, 28, 2, 160, 0, 8, 43, 180, 0, 96, 172, 42, 180, 0, 20, 180, 0, 99, 28, 46, 43, 180, 0, 99]
abbrev dktX2_repairedValue_2 : List UInt8 := dkwX2_repairedValue_2 ++ dktX2_repairedValue_3
def dkwX2_repairedValue_1 : List UInt8 := [42, 180, 0, 20, 180, 0, 93, 43, 180, 0, 93, 159, 0, 8, 43, 180, 0, 93, 172, 42, 43, 182, 0, 122]
abbrev dktX2_repairedValue_1 : List UInt8 := dkwX2_repairedValue_1 ++ dktX2_repairedValue_2
def dkwX2_repairedValue_0 : List UInt8 := [42, 182, 0, 114, 76, 42, 180, 0, 20, 180, 0, 90, 43, 180, 0, 90, 159, 0, 8, 43, 180, 0, 90, 172]
abbrev dktX2_repairedValue_0 : List UInt8 := dkwX2_repairedValue_0 ++ dktX2_repairedValue_1
theorem dksX2_repairedValue_0 : cX2_repairedValue.data.toList.drop 0 = dktX2_repairedValue_0 := by decide +kernel
theorem dksX2_repairedValue_1 : cX2_repairedValue.data.toList.drop 24 = dktX2_repairedValue_1 := dk_seg dksX2_repairedValue_0 24 rfl rfl
theorem dksX2_repairedValue_2 : cX2_repairedValue.data.toList.drop 48 = dktX2_repairedValue_2 := dk_seg dksX2_repairedValue_1 24 rfl rfl
theorem dksX2_repairedValue_3 : cX2_repairedValue.data.toList.drop 72 = dktX2_repairedValue_3 := dk_seg dksX2_repairedValue_2 24 rfl rfl
theorem dX2_repairedValue_0 : decode cX2_repairedValue 0 = .ok (.aload_n 0, 1) := dk_42 (dk_at dksX2_repairedValue_0 0 rfl rfl)
theorem dX2_repairedValue_1 : decode cX2_repairedValue 1 = .ok (.invokevirtual 114, 3) := dk_182 0 114 (dk_at dksX2_repairedValue_0 1 rfl rfl)
theorem dX2_repairedValue_4 : decode cX2_repairedValue 4 = .ok (.astore_n 1, 1) := dk_76 (dk_at dksX2_repairedValue_0 4 rfl rfl)
theorem dX2_repairedValue_5 : decode cX2_repairedValue 5 = .ok (.aload_n 0, 1) := dk_42 (dk_at dksX2_repairedValue_0 5 rfl rfl)
theorem dX2_repairedValue_6 : decode cX2_repairedValue 6 = .ok (.getfield 20, 3) := dk_180 0 20 (dk_at dksX2_repairedValue_0 6 rfl rfl)
theorem dX2_repairedValue_9 : decode cX2_repairedValue 9 = .ok (.getfield 90, 3) := dk_180 0 90 (dk_at dksX2_repairedValue_0 9 rfl rfl)
theorem dX2_repairedValue_12 : decode cX2_repairedValue 12 = .ok (.aload_n 1, 1) := dk_43 (dk_at dksX2_repairedValue_0 12 rfl rfl)
theorem dX2_repairedValue_13 : decode cX2_repairedValue 13 = .ok (.getfield 90, 3) := dk_180 0 90 (dk_at dksX2_repairedValue_0 13 rfl rfl)
theorem dX2_repairedValue_16 : decode cX2_repairedValue 16 = .ok (.if_icmp .eq 8, 3) := dk_159 0 8 (dk_at dksX2_repairedValue_0 16 rfl rfl)
theorem dX2_repairedValue_19 : decode cX2_repairedValue 19 = .ok (.aload_n 1, 1) := dk_43 (dk_at dksX2_repairedValue_0 19 rfl rfl)
theorem dX2_repairedValue_20 : decode cX2_repairedValue 20 = .ok (.getfield 90, 3) := dk_180 0 90 (dk_at dksX2_repairedValue_0 20 rfl rfl)
theorem dX2_repairedValue_23 : decode cX2_repairedValue 23 = .ok (.ireturn, 1) := dk_172 (dk_at dksX2_repairedValue_0 23 rfl rfl)
theorem dX2_repairedValue_24 : decode cX2_repairedValue 24 = .ok (.aload_n 0, 1) := dk_42 (dk_at dksX2_repairedValue_1 0 rfl rfl)
theorem dX2_repairedValue_25 : decode cX2_repairedValue 25 = .ok (.getfield 20, 3) := dk_180 0 20 (dk_at dksX2_repairedValue_1 1 rfl rfl)
theorem dX2_repairedValue_28 : decode cX2_repairedValue 28 = .ok (.getfield 93, 3) := dk_180 0 93 (dk_at dksX2_repairedValue_1 4 rfl rfl)
theorem dX2_repairedValue_31 : decode cX2_repairedValue 31 = .ok (.aload_n 1, 1) := dk_43 (dk_at dksX2_repairedValue_1 7 rfl rfl)
theorem dX2_repairedValue_32 : decode cX2_repairedValue 32 = .ok (.getfield 93, 3) := dk_180 0 93 (dk_at dksX2_repairedValue_1 8 rfl rfl)
theorem dX2_repairedValue_35 : decode cX2_repairedValue 35 = .ok (.if_icmp .eq 8, 3) := dk_159 0 8 (dk_at dksX2_repairedValue_1 11 rfl rfl)
theorem dX2_repairedValue_38 : decode cX2_repairedValue 38 = .ok (.aload_n 1, 1) := dk_43 (dk_at dksX2_repairedValue_1 14 rfl rfl)
theorem dX2_repairedValue_39 : decode cX2_repairedValue 39 = .ok (.getfield 93, 3) := dk_180 0 93 (dk_at dksX2_repairedValue_1 15 rfl rfl)
theorem dX2_repairedValue_42 : decode cX2_repairedValue 42 = .ok (.ireturn, 1) := dk_172 (dk_at dksX2_repairedValue_1 18 rfl rfl)
theorem dX2_repairedValue_43 : decode cX2_repairedValue 43 = .ok (.aload_n 0, 1) := dk_42 (dk_at dksX2_repairedValue_1 19 rfl rfl)
theorem dX2_repairedValue_44 : decode cX2_repairedValue 44 = .ok (.aload_n 1, 1) := dk_43 (dk_at dksX2_repairedValue_1 20 rfl rfl)
theorem dX2_repairedValue_45 : decode cX2_repairedValue 45 = .ok (.invokevirtual 122, 3) := dk_182 0 122 (dk_at dksX2_repairedValue_1 21 rfl rfl)
theorem dX2_repairedValue_48 : decode cX2_repairedValue 48 = .ok (.istore_n 2, 1) := dk_61 (dk_at dksX2_repairedValue_2 0 rfl rfl)
theorem dX2_repairedValue_49 : decode cX2_repairedValue 49 = .ok (.iload_n 2, 1) := dk_28 (dk_at dksX2_repairedValue_2 1 rfl rfl)
theorem dX2_repairedValue_50 : decode cX2_repairedValue 50 = .ok (.iconst (-1), 1) := dk_2 (dk_at dksX2_repairedValue_2 2 rfl rfl)
theorem dX2_repairedValue_51 : decode cX2_repairedValue 51 = .ok (.if_icmp .ne 8, 3) := dk_160 0 8 (dk_at dksX2_repairedValue_2 3 rfl rfl)
theorem dX2_repairedValue_54 : decode cX2_repairedValue 54 = .ok (.aload_n 1, 1) := dk_43 (dk_at dksX2_repairedValue_2 6 rfl rfl)
theorem dX2_repairedValue_55 : decode cX2_repairedValue 55 = .ok (.getfield 96, 3) := dk_180 0 96 (dk_at dksX2_repairedValue_2 7 rfl rfl)
theorem dX2_repairedValue_58 : decode cX2_repairedValue 58 = .ok (.ireturn, 1) := dk_172 (dk_at dksX2_repairedValue_2 10 rfl rfl)
theorem dX2_repairedValue_59 : decode cX2_repairedValue 59 = .ok (.aload_n 0, 1) := dk_42 (dk_at dksX2_repairedValue_2 11 rfl rfl)
theorem dX2_repairedValue_60 : decode cX2_repairedValue 60 = .ok (.getfield 20, 3) := dk_180 0 20 (dk_at dksX2_repairedValue_2 12 rfl rfl)
theorem dX2_repairedValue_63 : decode cX2_repairedValue 63 = .ok (.getfield 99, 3) := dk_180 0 99 (dk_at dksX2_repairedValue_2 15 rfl rfl)
theorem dX2_repairedValue_66 : decode cX2_repairedValue 66 = .ok (.iload_n 2, 1) := dk_28 (dk_at dksX2_repairedValue_2 18 rfl rfl)
theorem dX2_repairedValue_67 : decode cX2_repairedValue 67 = .ok (.iaload, 1) := dk_46 (dk_at dksX2_repairedValue_2 19 rfl rfl)
theorem dX2_repairedValue_68 : decode cX2_repairedValue 68 = .ok (.aload_n 1, 1) := dk_43 (dk_at dksX2_repairedValue_2 20 rfl rfl)
theorem dX2_repairedValue_69 : decode cX2_repairedValue 69 = .ok (.getfield 99, 3) := dk_180 0 99 (dk_at dksX2_repairedValue_2 21 rfl rfl)
theorem dX2_repairedValue_72 : decode cX2_repairedValue 72 = .ok (.iload_n 2, 1) := dk_28 (dk_at dksX2_repairedValue_3 0 rfl rfl)
theorem dX2_repairedValue_73 : decode cX2_repairedValue 73 = .ok (.iaload, 1) := dk_46 (dk_at dksX2_repairedValue_3 1 rfl rfl)
theorem dX2_repairedValue_74 : decode cX2_repairedValue 74 = .ok (.if_icmp .eq 12, 3) := dk_159 0 12 (dk_at dksX2_repairedValue_3 2 rfl rfl)
theorem dX2_repairedValue_77 : decode cX2_repairedValue 77 = .ok (.aload_n 1, 1) := dk_43 (dk_at dksX2_repairedValue_3 5 rfl rfl)
theorem dX2_repairedValue_78 : decode cX2_repairedValue 78 = .ok (.getfield 99, 3) := dk_180 0 99 (dk_at dksX2_repairedValue_3 6 rfl rfl)
theorem dX2_repairedValue_81 : decode cX2_repairedValue 81 = .ok (.iload_n 2, 1) := dk_28 (dk_at dksX2_repairedValue_3 9 rfl rfl)
theorem dX2_repairedValue_82 : decode cX2_repairedValue 82 = .ok (.iaload, 1) := dk_46 (dk_at dksX2_repairedValue_3 10 rfl rfl)
theorem dX2_repairedValue_83 : decode cX2_repairedValue 83 = .ok (.goto 9, 3) := dk_167 0 9 (dk_at dksX2_repairedValue_3 11 rfl rfl)
theorem dX2_repairedValue_86 : decode cX2_repairedValue 86 = .ok (.aload_n 1, 1) := dk_43 (dk_at dksX2_repairedValue_3 14 rfl rfl)
theorem dX2_repairedValue_87 : decode cX2_repairedValue 87 = .ok (.getfield 103, 3) := dk_180 0 103 (dk_at dksX2_repairedValue_3 15 rfl rfl)
theorem dX2_repairedValue_90 : decode cX2_repairedValue 90 = .ok (.iload_n 2, 1) := dk_28 (dk_at dksX2_repairedValue_3 18 rfl rfl)
theorem dX2_repairedValue_91 : decode cX2_repairedValue 91 = .ok (.iaload, 1) := dk_46 (dk_at dksX2_repairedValue_3 19 rfl rfl)
theorem dX2_repairedValue_92 : decode cX2_repairedValue 92 = .ok (.ireturn, 1) := dk_172 (dk_at dksX2_repairedValue_3 20 rfl rfl)
abbrev cX2_stageEnd : ByteArray := prog_8_method_25_code
def yX2_stageEnd : MethodName := ⟨RX2, "stageEnd", "(II)I"⟩
def dkwX2_stageEnd_2 : List UInt8 := [42, 180, 0, 20, 180, 0, 103, 27, 46, 167, 0, 4, 2, 172]
abbrev dktX2_stageEnd_2 : List UInt8 := dkwX2_stageEnd_2 ++ []
def dkwX2_stageEnd_1 : List UInt8 := [180, 0, 99, 27, 46, 172, 42, 27, 42, 180, 0, 20, 180, 0, 103, 27, 46, 28, 182, 0, 150, 153, 0, 15]
abbrev dktX2_stageEnd_1 : List UInt8 := dkwX2_stageEnd_1 ++ dktX2_stageEnd_2
def dkwX2_stageEnd_0 : List UInt8 := [42, 27, 42, 180, 0, 20, 180, 0, 99, 27, 46, 28, 182, 0, 150, 153, 0, 13, 42, 180, 0, 20]
abbrev dktX2_stageEnd_0 : List UInt8 := dkwX2_stageEnd_0 ++ dktX2_stageEnd_1
theorem dksX2_stageEnd_0 : cX2_stageEnd.data.toList.drop 0 = dktX2_stageEnd_0 := by decide +kernel
theorem dksX2_stageEnd_1 : cX2_stageEnd.data.toList.drop 22 = dktX2_stageEnd_1 := dk_seg dksX2_stageEnd_0 22 rfl rfl
theorem dksX2_stageEnd_2 : cX2_stageEnd.data.toList.drop 46 = dktX2_stageEnd_2 := dk_seg dksX2_stageEnd_1 24 rfl rfl
theorem dX2_stageEnd_0 : decode cX2_stageEnd 0 = .ok (.aload_n 0, 1) := dk_42 (dk_at dksX2_stageEnd_0 0 rfl rfl)
theorem dX2_stageEnd_1 : decode cX2_stageEnd 1 = .ok (.iload_n 1, 1) := dk_27 (dk_at dksX2_stageEnd_0 1 rfl rfl)
theorem dX2_stageEnd_2 : decode cX2_stageEnd 2 = .ok (.aload_n 0, 1) := dk_42 (dk_at dksX2_stageEnd_0 2 rfl rfl)
theorem dX2_stageEnd_3 : decode cX2_stageEnd 3 = .ok (.getfield 20, 3) := dk_180 0 20 (dk_at dksX2_stageEnd_0 3 rfl rfl)
theorem dX2_stageEnd_6 : decode cX2_stageEnd 6 = .ok (.getfield 99, 3) := dk_180 0 99 (dk_at dksX2_stageEnd_0 6 rfl rfl)
theorem dX2_stageEnd_9 : decode cX2_stageEnd 9 = .ok (.iload_n 1, 1) := dk_27 (dk_at dksX2_stageEnd_0 9 rfl rfl)
theorem dX2_stageEnd_10 : decode cX2_stageEnd 10 = .ok (.iaload, 1) := dk_46 (dk_at dksX2_stageEnd_0 10 rfl rfl)
theorem dX2_stageEnd_11 : decode cX2_stageEnd 11 = .ok (.iload_n 2, 1) := dk_28 (dk_at dksX2_stageEnd_0 11 rfl rfl)
theorem dX2_stageEnd_12 : decode cX2_stageEnd 12 = .ok (.invokevirtual 150, 3) := dk_182 0 150 (dk_at dksX2_stageEnd_0 12 rfl rfl)
theorem dX2_stageEnd_15 : decode cX2_stageEnd 15 = .ok (.ifCond .eq 13, 3) := dk_153 0 13 (dk_at dksX2_stageEnd_0 15 rfl rfl)
theorem dX2_stageEnd_18 : decode cX2_stageEnd 18 = .ok (.aload_n 0, 1) := dk_42 (dk_at dksX2_stageEnd_0 18 rfl rfl)
theorem dX2_stageEnd_19 : decode cX2_stageEnd 19 = .ok (.getfield 20, 3) := dk_180 0 20 (dk_at dksX2_stageEnd_0 19 rfl rfl)
theorem dX2_stageEnd_22 : decode cX2_stageEnd 22 = .ok (.getfield 99, 3) := dk_180 0 99 (dk_at dksX2_stageEnd_1 0 rfl rfl)
theorem dX2_stageEnd_25 : decode cX2_stageEnd 25 = .ok (.iload_n 1, 1) := dk_27 (dk_at dksX2_stageEnd_1 3 rfl rfl)
theorem dX2_stageEnd_26 : decode cX2_stageEnd 26 = .ok (.iaload, 1) := dk_46 (dk_at dksX2_stageEnd_1 4 rfl rfl)
theorem dX2_stageEnd_27 : decode cX2_stageEnd 27 = .ok (.ireturn, 1) := dk_172 (dk_at dksX2_stageEnd_1 5 rfl rfl)
theorem dX2_stageEnd_28 : decode cX2_stageEnd 28 = .ok (.aload_n 0, 1) := dk_42 (dk_at dksX2_stageEnd_1 6 rfl rfl)
theorem dX2_stageEnd_29 : decode cX2_stageEnd 29 = .ok (.iload_n 1, 1) := dk_27 (dk_at dksX2_stageEnd_1 7 rfl rfl)
theorem dX2_stageEnd_30 : decode cX2_stageEnd 30 = .ok (.aload_n 0, 1) := dk_42 (dk_at dksX2_stageEnd_1 8 rfl rfl)
theorem dX2_stageEnd_31 : decode cX2_stageEnd 31 = .ok (.getfield 20, 3) := dk_180 0 20 (dk_at dksX2_stageEnd_1 9 rfl rfl)
theorem dX2_stageEnd_34 : decode cX2_stageEnd 34 = .ok (.getfield 103, 3) := dk_180 0 103 (dk_at dksX2_stageEnd_1 12 rfl rfl)
theorem dX2_stageEnd_37 : decode cX2_stageEnd 37 = .ok (.iload_n 1, 1) := dk_27 (dk_at dksX2_stageEnd_1 15 rfl rfl)
theorem dX2_stageEnd_38 : decode cX2_stageEnd 38 = .ok (.iaload, 1) := dk_46 (dk_at dksX2_stageEnd_1 16 rfl rfl)
theorem dX2_stageEnd_39 : decode cX2_stageEnd 39 = .ok (.iload_n 2, 1) := dk_28 (dk_at dksX2_stageEnd_1 17 rfl rfl)
theorem dX2_stageEnd_40 : decode cX2_stageEnd 40 = .ok (.invokevirtual 150, 3) := dk_182 0 150 (dk_at dksX2_stageEnd_1 18 rfl rfl)
theorem dX2_stageEnd_43 : decode cX2_stageEnd 43 = .ok (.ifCond .eq 15, 3) := dk_153 0 15 (dk_at dksX2_stageEnd_1 21 rfl rfl)
theorem dX2_stageEnd_46 : decode cX2_stageEnd 46 = .ok (.aload_n 0, 1) := dk_42 (dk_at dksX2_stageEnd_2 0 rfl rfl)
theorem dX2_stageEnd_47 : decode cX2_stageEnd 47 = .ok (.getfield 20, 3) := dk_180 0 20 (dk_at dksX2_stageEnd_2 1 rfl rfl)
theorem dX2_stageEnd_50 : decode cX2_stageEnd 50 = .ok (.getfield 103, 3) := dk_180 0 103 (dk_at dksX2_stageEnd_2 4 rfl rfl)
theorem dX2_stageEnd_53 : decode cX2_stageEnd 53 = .ok (.iload_n 1, 1) := dk_27 (dk_at dksX2_stageEnd_2 7 rfl rfl)
theorem dX2_stageEnd_54 : decode cX2_stageEnd 54 = .ok (.iaload, 1) := dk_46 (dk_at dksX2_stageEnd_2 8 rfl rfl)
theorem dX2_stageEnd_55 : decode cX2_stageEnd 55 = .ok (.goto 4, 3) := dk_167 0 4 (dk_at dksX2_stageEnd_2 9 rfl rfl)
theorem dX2_stageEnd_58 : decode cX2_stageEnd 58 = .ok (.iconst (-1), 1) := dk_2 (dk_at dksX2_stageEnd_2 12 rfl rfl)
theorem dX2_stageEnd_59 : decode cX2_stageEnd 59 = .ok (.ireturn, 1) := dk_172 (dk_at dksX2_stageEnd_2 13 rfl rfl)
abbrev cX2_canRide : ByteArray := prog_8_method_24_code
def yX2_canRide : MethodName := ⟨RX2, "canRide", "(III)Z"⟩
def dkwX2_canRide_1 : List UInt8 := [182, 0, 147, 29, 163, 0, 7, 4, 167, 0, 4, 3, 172]
abbrev dktX2_canRide_1 : List UInt8 := dkwX2_canRide_1 ++ []
def dkwX2_canRide_0 : List UInt8 := [42, 28, 182, 0, 45, 153, 0, 29, 42, 180, 0, 11, 28, 50, 180, 0, 49, 153, 0, 17, 42, 27, 28]
abbrev dktX2_canRide_0 : List UInt8 := dkwX2_canRide_0 ++ dktX2_canRide_1
theorem dksX2_canRide_0 : cX2_canRide.data.toList.drop 0 = dktX2_canRide_0 := by decide +kernel
theorem dksX2_canRide_1 : cX2_canRide.data.toList.drop 23 = dktX2_canRide_1 := dk_seg dksX2_canRide_0 23 rfl rfl
theorem dX2_canRide_0 : decode cX2_canRide 0 = .ok (.aload_n 0, 1) := dk_42 (dk_at dksX2_canRide_0 0 rfl rfl)
theorem dX2_canRide_1 : decode cX2_canRide 1 = .ok (.iload_n 2, 1) := dk_28 (dk_at dksX2_canRide_0 1 rfl rfl)
theorem dX2_canRide_2 : decode cX2_canRide 2 = .ok (.invokevirtual 45, 3) := dk_182 0 45 (dk_at dksX2_canRide_0 2 rfl rfl)
theorem dX2_canRide_5 : decode cX2_canRide 5 = .ok (.ifCond .eq 29, 3) := dk_153 0 29 (dk_at dksX2_canRide_0 5 rfl rfl)
theorem dX2_canRide_8 : decode cX2_canRide 8 = .ok (.aload_n 0, 1) := dk_42 (dk_at dksX2_canRide_0 8 rfl rfl)
theorem dX2_canRide_9 : decode cX2_canRide 9 = .ok (.getfield 11, 3) := dk_180 0 11 (dk_at dksX2_canRide_0 9 rfl rfl)
theorem dX2_canRide_12 : decode cX2_canRide 12 = .ok (.iload_n 2, 1) := dk_28 (dk_at dksX2_canRide_0 12 rfl rfl)
theorem dX2_canRide_13 : decode cX2_canRide 13 = .ok (.aaload, 1) := dk_50 (dk_at dksX2_canRide_0 13 rfl rfl)
theorem dX2_canRide_14 : decode cX2_canRide 14 = .ok (.getfield 49, 3) := dk_180 0 49 (dk_at dksX2_canRide_0 14 rfl rfl)
theorem dX2_canRide_17 : decode cX2_canRide 17 = .ok (.ifCond .eq 17, 3) := dk_153 0 17 (dk_at dksX2_canRide_0 17 rfl rfl)
theorem dX2_canRide_20 : decode cX2_canRide 20 = .ok (.aload_n 0, 1) := dk_42 (dk_at dksX2_canRide_0 20 rfl rfl)
theorem dX2_canRide_21 : decode cX2_canRide 21 = .ok (.iload_n 1, 1) := dk_27 (dk_at dksX2_canRide_0 21 rfl rfl)
theorem dX2_canRide_22 : decode cX2_canRide 22 = .ok (.iload_n 2, 1) := dk_28 (dk_at dksX2_canRide_0 22 rfl rfl)
theorem dX2_canRide_23 : decode cX2_canRide 23 = .ok (.invokevirtual 147, 3) := dk_182 0 147 (dk_at dksX2_canRide_1 0 rfl rfl)
theorem dX2_canRide_26 : decode cX2_canRide 26 = .ok (.iload_n 3, 1) := dk_29 (dk_at dksX2_canRide_1 3 rfl rfl)
theorem dX2_canRide_27 : decode cX2_canRide 27 = .ok (.if_icmp .gt 7, 3) := dk_163 0 7 (dk_at dksX2_canRide_1 4 rfl rfl)
theorem dX2_canRide_30 : decode cX2_canRide 30 = .ok (.iconst 1, 1) := dk_4 (dk_at dksX2_canRide_1 7 rfl rfl)
theorem dX2_canRide_31 : decode cX2_canRide 31 = .ok (.goto 4, 3) := dk_167 0 4 (dk_at dksX2_canRide_1 8 rfl rfl)
theorem dX2_canRide_34 : decode cX2_canRide 34 = .ok (.iconst 0, 1) := dk_3 (dk_at dksX2_canRide_1 11 rfl rfl)
theorem dX2_canRide_35 : decode cX2_canRide 35 = .ok (.ireturn, 1) := dk_172 (dk_at dksX2_canRide_1 12 rfl rfl)
theorem q71 : (Jvm.Cond.initialized "InnRoad$Road") ∈ lw_all := lw_g (lw_at lw_m1 2 rfl) rfl
theorem q124 : (Jvm.Cond.instantiable "InnRoad$Road" (5 : Nat)) ∈ lw_all := lw_g (lw_at lw_m1 55 rfl) rfl
theorem q126 : (Jvm.Cond.instanceMethod ({ cls := "InnRoad$Road", name := "<init>", desc := "()V" } : Jvm.MethodName)) ∈ lw_all := lw_g (lw_at lw_m1 57 rfl) rfl
theorem q127 : (Jvm.Cond.code ({ cls := "InnRoad$Road", name := "<init>", desc := "()V" } : Jvm.MethodName) prog_8_method_1_code (1 : Nat) (Option.none : Option Jvm.ClassFile.FieldType)) ∈ lw_all := lw_g (lw_at lw_m1 58 rfl) rfl
theorem q128 : (Jvm.Cond.methodLink "InnRoad$Road" (3 : Nat) ({ cls := "java/lang/Object", name := "<init>", desc := "()V" } : Jvm.MethodName)) ∈ lw_all := lw_g (lw_at lw_m1 59 rfl) rfl
theorem q129 : (Jvm.Cond.classLink "InnRoad$Road" (9 : Nat) "InnRoad$Inn") ∈ lw_all := lw_g (lw_at lw_m1 60 rfl) rfl
theorem q131 : (Jvm.Cond.classLink "InnRoad$Road" (17 : Nat) "InnRoad$Links") ∈ lw_all := lw_g (lw_at lw_m1 62 rfl) rfl
theorem q133 : (Jvm.Cond.methodLink "InnRoad$Road" (19 : Nat) ({ cls := "InnRoad$Links", name := "<init>", desc := "()V" } : Jvm.MethodName)) ∈ lw_all := lw_g (lw_at lw_m1 64 rfl) rfl
theorem q139 : (Jvm.Cond.fieldLinkNest "InnRoad$Road" (99 : Nat) "InnRoad$Links" "next" "[I" "InnRoad") ∈ lw_tbl := lw_at lw_m1 70 rfl
theorem q143 : (Jvm.Cond.fieldLinkNest "InnRoad$Road" (103 : Nat) "InnRoad$Links" "skip" "[I" "InnRoad") ∈ lw_tbl := lw_at lw_m1 74 rfl
theorem q147 : (Jvm.Cond.fieldLinkNest "InnRoad$Road" (90 : Nat) "InnRoad$Links" "first" "I" "InnRoad") ∈ lw_tbl := lw_at lw_m1 78 rfl
theorem q151 : (Jvm.Cond.fieldLinkNest "InnRoad$Road" (93 : Nat) "InnRoad$Links" "second" "I" "InnRoad") ∈ lw_tbl := lw_at lw_m1 82 rfl
theorem q155 : (Jvm.Cond.fieldLinkNest "InnRoad$Road" (96 : Nat) "InnRoad$Links" "count" "I" "InnRoad") ∈ lw_tbl := lw_at lw_m1 86 rfl
theorem q171 : (Jvm.Cond.fieldLink "InnRoad$Road" (11 : Nat) "InnRoad$Road" "inns" "[LInnRoad$Inn;") ∈ lw_all := lw_g (lw_at lw_m1 102 rfl) rfl
theorem q174 : (Jvm.Cond.fieldLink "InnRoad$Road" (20 : Nat) "InnRoad$Road" "links" "LInnRoad$Links;") ∈ lw_all := lw_g (lw_at lw_m1 105 rfl) rfl
theorem q178 : (Jvm.Cond.fieldLink "InnRoad$Road" (35 : Nat) "InnRoad$Road" "range" "I") ∈ lw_all := lw_g (lw_at lw_m1 109 rfl) rfl
theorem q181 : (Jvm.Cond.fieldLink "InnRoad$Road" (39 : Nat) "InnRoad$Road" "stagesRidden" "I") ∈ lw_all := lw_g (lw_at lw_m1 112 rfl) rfl
theorem q183 : (Jvm.Cond.fieldLink "InnRoad$Road" (42 : Nat) "InnRoad$Road" "lettersDelivered" "I") ∈ lw_all := lw_g (lw_at lw_m1 114 rfl) rfl
theorem q185 : (Jvm.Cond.laysFinal "InnRoad$Road" "InnRoad$Road" "inns" "[LInnRoad$Inn;") ∈ lw_all := lw_g (lw_at lw_m1 116 rfl) rfl
theorem q186 : (Jvm.Cond.soleField "InnRoad$Road" "inns") ∈ lw_all := lw_g (lw_at lw_m1 117 rfl) rfl
theorem q187 : (Jvm.Cond.laysFinal "InnRoad$Road" "InnRoad$Road" "links" "LInnRoad$Links;") ∈ lw_all := lw_g (lw_at lw_m1 118 rfl) rfl
theorem q188 : (Jvm.Cond.soleField "InnRoad$Road" "links") ∈ lw_all := lw_g (lw_at lw_m1 119 rfl) rfl
theorem q189 : (Jvm.Cond.lays "InnRoad$Road" "InnRoad$Road" "range" "I") ∈ lw_all := lw_g (lw_at lw_m1 120 rfl) rfl
theorem q190 : (Jvm.Cond.soleField "InnRoad$Road" "range") ∈ lw_all := lw_g (lw_at lw_m1 121 rfl) rfl
theorem q191 : (Jvm.Cond.lays "InnRoad$Road" "InnRoad$Road" "stagesRidden" "I") ∈ lw_all := lw_g (lw_at lw_m1 122 rfl) rfl
theorem q192 : (Jvm.Cond.soleField "InnRoad$Road" "stagesRidden") ∈ lw_all := lw_g (lw_at lw_m1 123 rfl) rfl
theorem q193 : (Jvm.Cond.lays "InnRoad$Road" "InnRoad$Road" "lettersDelivered" "I") ∈ lw_all := lw_g (lw_at lw_m1 124 rfl) rfl
theorem q194 : (Jvm.Cond.soleField "InnRoad$Road" "lettersDelivered") ∈ lw_all := lw_g (lw_at lw_m1 125 rfl) rfl
theorem q195 : (Jvm.Cond.superclass "InnRoad$Road" "java/lang/Object") ∈ lw_all := lw_g (lw_at lw_m1 126 rfl) rfl
theorem q238 : (Jvm.Cond.fieldLinkNest "InnRoad$Road" (53 : Nat) "InnRoad$Inn" "mile" "I" "InnRoad") ∈ lw_tbl := lw_at lw_m1 169 rfl
theorem q241 : (Jvm.Cond.fieldLinkNest "InnRoad$Road" (49 : Nat) "InnRoad$Inn" "isOpen" "Z" "InnRoad") ∈ lw_tbl := lw_at lw_m1 172 rfl
theorem q253 : (Jvm.Cond.instanceMethod ({ cls := "InnRoad$Road", name := "rebuild", desc := "()I" } : Jvm.MethodName)) ∈ lw_all := lw_g (lw_at lw_m1 184 rfl) rfl
theorem q254 : (Jvm.Cond.selects "InnRoad$Road" ({ cls := "InnRoad$Road", name := "rebuild", desc := "()I" } : Jvm.MethodName) ({ cls := "InnRoad$Road", name := "rebuild", desc := "()I" } : Jvm.MethodName)) ∈ lw_all := lw_g (lw_at lw_m1 185 rfl) rfl
theorem q255 : (Jvm.Cond.code ({ cls := "InnRoad$Road", name := "rebuild", desc := "()I" } : Jvm.MethodName) prog_8_method_15_code (3 : Nat) (Option.some Jvm.ClassFile.FieldType.int)) ∈ lw_all := lw_g (lw_at lw_m1 186 rfl) rfl
theorem q256 : (Jvm.Cond.methodLink "InnRoad$Road" (114 : Nat) ({ cls := "InnRoad$Road", name := "correctLinks", desc := "()LInnRoad$Links;" } : Jvm.MethodName)) ∈ lw_all := lw_g (lw_at lw_m1 187 rfl) rfl
theorem q257 : (Jvm.Cond.instanceMethod ({ cls := "InnRoad$Road", name := "correctLinks", desc := "()LInnRoad$Links;" } : Jvm.MethodName)) ∈ lw_all := lw_g (lw_at lw_m1 188 rfl) rfl
theorem q258 : (Jvm.Cond.selects "InnRoad$Road" ({ cls := "InnRoad$Road", name := "correctLinks", desc := "()LInnRoad$Links;" } : Jvm.MethodName) ({ cls := "InnRoad$Road", name := "correctLinks", desc := "()LInnRoad$Links;" } : Jvm.MethodName)) ∈ lw_all := lw_g (lw_at lw_m1 189 rfl) rfl
theorem q259 : (Jvm.Cond.code ({ cls := "InnRoad$Road", name := "correctLinks", desc := "()LInnRoad$Links;" } : Jvm.MethodName) prog_8_method_10_code (4 : Nat) (Option.some (Jvm.ClassFile.FieldType.object "InnRoad$Links"))) ∈ lw_all := lw_g (lw_at lw_m1 190 rfl) rfl
theorem q260 : (Jvm.Cond.methodLink "InnRoad$Road" (82 : Nat) ({ cls := "InnRoad$Road", name := "byMiles", desc := "()Ljava/util/List;" } : Jvm.MethodName)) ∈ lw_all := lw_g (lw_at lw_m1 191 rfl) rfl
theorem q261 : (Jvm.Cond.privateMethod ({ cls := "InnRoad$Road", name := "byMiles", desc := "()Ljava/util/List;" } : Jvm.MethodName)) ∈ lw_tbl := lw_at lw_m1 192 rfl
theorem q262 : (Jvm.Cond.instanceMethod ({ cls := "InnRoad$Road", name := "byMiles", desc := "()Ljava/util/List;" } : Jvm.MethodName)) ∈ lw_all := lw_g (lw_at lw_m1 193 rfl) rfl
theorem q263 : (Jvm.Cond.code ({ cls := "InnRoad$Road", name := "byMiles", desc := "()Ljava/util/List;" } : Jvm.MethodName) prog_8_method_8_code (4 : Nat) (Option.some (Jvm.ClassFile.FieldType.object "java/util/List"))) ∈ lw_all := lw_g (lw_at lw_m1 194 rfl) rfl
theorem q264 : (Jvm.Cond.classLink "InnRoad$Road" (56 : Nat) "java/util/ArrayList") ∈ lw_all := lw_g (lw_at lw_m1 195 rfl) rfl
theorem q266 : (Jvm.Cond.methodLink "InnRoad$Road" (58 : Nat) ({ cls := "java/util/ArrayList", name := "<init>", desc := "()V" } : Jvm.MethodName)) ∈ lw_all := lw_g (lw_at lw_m1 197 rfl) rfl
theorem q290 : (Jvm.Cond.methodLink "InnRoad$Road" (45 : Nat) ({ cls := "InnRoad$Road", name := "hasInn", desc := "(I)Z" } : Jvm.MethodName)) ∈ lw_all := lw_g (lw_at lw_m1 221 rfl) rfl
theorem q291 : (Jvm.Cond.instanceMethod ({ cls := "InnRoad$Road", name := "hasInn", desc := "(I)Z" } : Jvm.MethodName)) ∈ lw_all := lw_g (lw_at lw_m1 222 rfl) rfl
theorem q292 : (Jvm.Cond.selects "InnRoad$Road" ({ cls := "InnRoad$Road", name := "hasInn", desc := "(I)Z" } : Jvm.MethodName) ({ cls := "InnRoad$Road", name := "hasInn", desc := "(I)Z" } : Jvm.MethodName)) ∈ lw_all := lw_g (lw_at lw_m1 223 rfl) rfl
theorem q293 : (Jvm.Cond.code ({ cls := "InnRoad$Road", name := "hasInn", desc := "(I)Z" } : Jvm.MethodName) prog_8_method_3_code (2 : Nat) (Option.some Jvm.ClassFile.FieldType.boolean)) ∈ lw_all := lw_g (lw_at lw_m1 224 rfl) rfl
theorem q294 : (Jvm.Cond.interfaceEntry "InnRoad$Road" (59 : Nat)) ∈ lw_tbl := lw_at lw_m1 225 rfl
theorem q295 : (Jvm.Cond.methodLink "InnRoad$Road" (59 : Nat) ({ cls := "java/util/List", name := "size", desc := "()I" } : Jvm.MethodName)) ∈ lw_all := lw_g (lw_at lw_m1 226 rfl) rfl
theorem q304 : (Jvm.Cond.interfaceEntry "InnRoad$Road" (65 : Nat)) ∈ lw_tbl := lw_at lw_m1 235 rfl
theorem q305 : (Jvm.Cond.methodLink "InnRoad$Road" (65 : Nat) ({ cls := "java/util/List", name := "get", desc := "(I)Ljava/lang/Object;" } : Jvm.MethodName)) ∈ lw_all := lw_g (lw_at lw_m1 236 rfl) rfl
theorem q323 : (Jvm.Cond.classLink "InnRoad$Road" (69 : Nat) "java/lang/Integer") ∈ lw_all := lw_g (lw_at lw_m2 14 rfl) rfl
theorem q324 : (Jvm.Cond.methodLink "InnRoad$Road" (71 : Nat) ({ cls := "java/lang/Integer", name := "intValue", desc := "()I" } : Jvm.MethodName)) ∈ lw_all := lw_g (lw_at lw_m2 15 rfl) rfl
theorem q328 : (Jvm.Cond.methodLink "InnRoad$Road" (74 : Nat) ({ cls := "java/lang/Integer", name := "valueOf", desc := "(I)Ljava/lang/Integer;" } : Jvm.MethodName)) ∈ lw_all := lw_g (lw_at lw_m2 19 rfl) rfl
theorem q348 : (Jvm.Cond.interfaceEntry "InnRoad$Road" (78 : Nat)) ∈ lw_tbl := lw_at lw_m2 39 rfl
theorem q349 : (Jvm.Cond.methodLink "InnRoad$Road" (78 : Nat) ({ cls := "java/util/List", name := "add", desc := "(ILjava/lang/Object;)V" } : Jvm.MethodName)) ∈ lw_all := lw_g (lw_at lw_m2 40 rfl) rfl
theorem q715 : (Jvm.Cond.selects "InnRoad$Road" ({ cls := "java/lang/Object", name := "getClass", desc := "()Ljava/lang/Class;" } : Jvm.MethodName) ({ cls := "java/lang/Object", name := "getClass", desc := "()Ljava/lang/Class;" } : Jvm.MethodName)) ∈ lw_all := lw_g (lw_at lw_m3 166 rfl) rfl
theorem q743 : (Jvm.Cond.methodLink "InnRoad$Road" (86 : Nat) ({ cls := "InnRoad$Road", name := "elementOr", desc := "(Ljava/util/List;ILjava/lang/Object;)Ljava/lang/Object;" } : Jvm.MethodName)) ∈ lw_all := lw_g (lw_at lw_m3 194 rfl) rfl
theorem q744 : (Jvm.Cond.static ({ cls := "InnRoad$Road", name := "elementOr", desc := "(Ljava/util/List;ILjava/lang/Object;)Ljava/lang/Object;" } : Jvm.MethodName)) ∈ lw_all := lw_g (lw_at lw_m3 195 rfl) rfl
theorem q745 : (Jvm.Cond.code ({ cls := "InnRoad$Road", name := "elementOr", desc := "(Ljava/util/List;ILjava/lang/Object;)Ljava/lang/Object;" } : Jvm.MethodName) prog_8_method_9_code (3 : Nat) (Option.some (Jvm.ClassFile.FieldType.object "java/lang/Object"))) ∈ lw_all := lw_g (lw_at lw_m3 196 rfl) rfl
theorem q746 : (Jvm.Cond.methodLink "InnRoad$Road" (118 : Nat) ({ cls := "InnRoad$Road", name := "wrongValues", desc := "(LInnRoad$Links;)I" } : Jvm.MethodName)) ∈ lw_all := lw_g (lw_at lw_m3 197 rfl) rfl
theorem q747 : (Jvm.Cond.instanceMethod ({ cls := "InnRoad$Road", name := "wrongValues", desc := "(LInnRoad$Links;)I" } : Jvm.MethodName)) ∈ lw_all := lw_g (lw_at lw_m3 198 rfl) rfl
theorem q748 : (Jvm.Cond.selects "InnRoad$Road" ({ cls := "InnRoad$Road", name := "wrongValues", desc := "(LInnRoad$Links;)I" } : Jvm.MethodName) ({ cls := "InnRoad$Road", name := "wrongValues", desc := "(LInnRoad$Links;)I" } : Jvm.MethodName)) ∈ lw_all := lw_g (lw_at lw_m3 199 rfl) rfl
theorem q749 : (Jvm.Cond.code ({ cls := "InnRoad$Road", name := "wrongValues", desc := "(LInnRoad$Links;)I" } : Jvm.MethodName) prog_8_method_13_code (4 : Nat) (Option.some Jvm.ClassFile.FieldType.int)) ∈ lw_all := lw_g (lw_at lw_m3 200 rfl) rfl
theorem q750 : (Jvm.Cond.methodLink "InnRoad$Road" (106 : Nat) ({ cls := "InnRoad$Road", name := "difference", desc := "(II)I" } : Jvm.MethodName)) ∈ lw_all := lw_g (lw_at lw_m3 201 rfl) rfl
theorem q751 : (Jvm.Cond.static ({ cls := "InnRoad$Road", name := "difference", desc := "(II)I" } : Jvm.MethodName)) ∈ lw_all := lw_g (lw_at lw_m3 202 rfl) rfl
theorem q752 : (Jvm.Cond.code ({ cls := "InnRoad$Road", name := "difference", desc := "(II)I" } : Jvm.MethodName) prog_8_method_11_code (2 : Nat) (Option.some Jvm.ClassFile.FieldType.int)) ∈ lw_all := lw_g (lw_at lw_m3 203 rfl) rfl
theorem q753 : (Jvm.Cond.methodLink "InnRoad$Road" (110 : Nat) ({ cls := "InnRoad$Road", name := "wrongAt", desc := "(ILInnRoad$Links;)I" } : Jvm.MethodName)) ∈ lw_all := lw_g (lw_at lw_m3 204 rfl) rfl
theorem q754 : (Jvm.Cond.privateMethod ({ cls := "InnRoad$Road", name := "wrongAt", desc := "(ILInnRoad$Links;)I" } : Jvm.MethodName)) ∈ lw_tbl := lw_at lw_m3 205 rfl
theorem q755 : (Jvm.Cond.instanceMethod ({ cls := "InnRoad$Road", name := "wrongAt", desc := "(ILInnRoad$Links;)I" } : Jvm.MethodName)) ∈ lw_all := lw_g (lw_at lw_m3 206 rfl) rfl
theorem q756 : (Jvm.Cond.code ({ cls := "InnRoad$Road", name := "wrongAt", desc := "(ILInnRoad$Links;)I" } : Jvm.MethodName) prog_8_method_12_code (3 : Nat) (Option.some Jvm.ClassFile.FieldType.int)) ∈ lw_all := lw_g (lw_at lw_m3 207 rfl) rfl
theorem q757 : (Jvm.Cond.methodLink "InnRoad$Road" (31 : Nat) ({ cls := "InnRoad$Links", name := "take", desc := "(LInnRoad$Links;)V" } : Jvm.MethodName)) ∈ lw_all := lw_g (lw_at lw_m3 208 rfl) rfl
theorem q987 : (Jvm.Cond.selects "InnRoad$Road" ({ cls := "java/lang/Object", name := "hashCode", desc := "()I" } : Jvm.MethodName) ({ cls := "java/lang/Object", name := "hashCode", desc := "()I" } : Jvm.MethodName)) ∈ lw_all := lw_g (lw_at lw_m4 198 rfl) rfl
theorem q1080 : (Jvm.Cond.selects "InnRoad$Road" ({ cls := "java/lang/Object", name := "equals", desc := "(Ljava/lang/Object;)Z" } : Jvm.MethodName) ({ cls := "java/lang/Object", name := "equals", desc := "(Ljava/lang/Object;)Z" } : Jvm.MethodName)) ∈ lw_all := lw_g (lw_at lw_m5 51 rfl) rfl
theorem q1493 : (Jvm.Cond.instanceMethod ({ cls := "InnRoad$Road", name := "innAtMile", desc := "(I)I" } : Jvm.MethodName)) ∈ lw_all := lw_g (lw_at lw_m6 224 rfl) rfl
theorem q1494 : (Jvm.Cond.selects "InnRoad$Road" ({ cls := "InnRoad$Road", name := "innAtMile", desc := "(I)I" } : Jvm.MethodName) ({ cls := "InnRoad$Road", name := "innAtMile", desc := "(I)I" } : Jvm.MethodName)) ∈ lw_all := lw_g (lw_at lw_m6 225 rfl) rfl
theorem q1495 : (Jvm.Cond.code ({ cls := "InnRoad$Road", name := "innAtMile", desc := "(I)I" } : Jvm.MethodName) prog_8_method_6_code (3 : Nat) (Option.some Jvm.ClassFile.FieldType.int)) ∈ lw_all := lw_g (lw_at lw_m6 226 rfl) rfl
theorem q1524 : (Jvm.Cond.instanceMethod ({ cls := "InnRoad$Road", name := "openInns", desc := "()I" } : Jvm.MethodName)) ∈ lw_all := lw_g (lw_at lw_m7 15 rfl) rfl
theorem q1525 : (Jvm.Cond.selects "InnRoad$Road" ({ cls := "InnRoad$Road", name := "openInns", desc := "()I" } : Jvm.MethodName) ({ cls := "InnRoad$Road", name := "openInns", desc := "()I" } : Jvm.MethodName)) ∈ lw_all := lw_g (lw_at lw_m7 16 rfl) rfl
theorem q1526 : (Jvm.Cond.code ({ cls := "InnRoad$Road", name := "openInns", desc := "()I" } : Jvm.MethodName) prog_8_method_5_code (3 : Nat) (Option.some Jvm.ClassFile.FieldType.int)) ∈ lw_all := lw_g (lw_at lw_m7 17 rfl) rfl
theorem q1532 : (Jvm.Cond.instanceMethod ({ cls := "InnRoad$Road", name := "copy", desc := "()LInnRoad$Road;" } : Jvm.MethodName)) ∈ lw_all := lw_g (lw_at lw_m7 23 rfl) rfl
theorem q1533 : (Jvm.Cond.selects "InnRoad$Road" ({ cls := "InnRoad$Road", name := "copy", desc := "()LInnRoad$Road;" } : Jvm.MethodName) ({ cls := "InnRoad$Road", name := "copy", desc := "()LInnRoad$Road;" } : Jvm.MethodName)) ∈ lw_all := lw_g (lw_at lw_m7 24 rfl) rfl
theorem q1534 : (Jvm.Cond.code ({ cls := "InnRoad$Road", name := "copy", desc := "()LInnRoad$Road;" } : Jvm.MethodName) prog_8_method_2_code (2 : Nat) (Option.some (Jvm.ClassFile.FieldType.object "InnRoad$Road"))) ∈ lw_all := lw_g (lw_at lw_m7 25 rfl) rfl
theorem q1535 : (Jvm.Cond.classLink "InnRoad$Road" (12 : Nat) "InnRoad$Road") ∈ lw_all := lw_g (lw_at lw_m7 26 rfl) rfl
theorem q1536 : (Jvm.Cond.methodLink "InnRoad$Road" (24 : Nat) ({ cls := "InnRoad$Road", name := "<init>", desc := "()V" } : Jvm.MethodName)) ∈ lw_all := lw_g (lw_at lw_m7 27 rfl) rfl
theorem q1537 : (Jvm.Cond.methodLink "InnRoad$Road" (25 : Nat) ({ cls := "java/lang/System", name := "arraycopy", desc := "(Ljava/lang/Object;ILjava/lang/Object;II)V" } : Jvm.MethodName)) ∈ lw_all := lw_g (lw_at lw_m7 28 rfl) rfl
theorem q1624 : (Jvm.Cond.instanceMethod ({ cls := "InnRoad$Road", name := "size", desc := "()I" } : Jvm.MethodName)) ∈ lw_all := lw_g (lw_at lw_m7 115 rfl) rfl
theorem q1625 : (Jvm.Cond.selects "InnRoad$Road" ({ cls := "InnRoad$Road", name := "size", desc := "()I" } : Jvm.MethodName) ({ cls := "InnRoad$Road", name := "size", desc := "()I" } : Jvm.MethodName)) ∈ lw_all := lw_g (lw_at lw_m7 116 rfl) rfl
theorem q1626 : (Jvm.Cond.code ({ cls := "InnRoad$Road", name := "size", desc := "()I" } : Jvm.MethodName) prog_8_method_4_code (3 : Nat) (Option.some Jvm.ClassFile.FieldType.int)) ∈ lw_all := lw_g (lw_at lw_m7 117 rfl) rfl
theorem q1680 : (Jvm.Cond.instanceMethod ({ cls := "InnRoad$Road", name := "distance", desc := "(II)I" } : Jvm.MethodName)) ∈ lw_all := lw_g (lw_at lw_m7 171 rfl) rfl
theorem q1681 : (Jvm.Cond.selects "InnRoad$Road" ({ cls := "InnRoad$Road", name := "distance", desc := "(II)I" } : Jvm.MethodName) ({ cls := "InnRoad$Road", name := "distance", desc := "(II)I" } : Jvm.MethodName)) ∈ lw_all := lw_g (lw_at lw_m7 172 rfl) rfl
theorem q1682 : (Jvm.Cond.code ({ cls := "InnRoad$Road", name := "distance", desc := "(II)I" } : Jvm.MethodName) prog_8_method_23_code (3 : Nat) (Option.some Jvm.ClassFile.FieldType.int)) ∈ lw_all := lw_g (lw_at lw_m7 173 rfl) rfl
theorem q1683 : (Jvm.Cond.methodLink "InnRoad$Road" (142 : Nat) ({ cls := "java/lang/Math", name := "abs", desc := "(I)I" } : Jvm.MethodName)) ∈ lw_all := lw_g (lw_at lw_m7 174 rfl) rfl
theorem q1695 : (Jvm.Cond.instanceMethod ({ cls := "InnRoad$Road", name := "wrongValues", desc := "()I" } : Jvm.MethodName)) ∈ lw_all := lw_g (lw_at lw_m7 186 rfl) rfl
theorem q1696 : (Jvm.Cond.selects "InnRoad$Road" ({ cls := "InnRoad$Road", name := "wrongValues", desc := "()I" } : Jvm.MethodName) ({ cls := "InnRoad$Road", name := "wrongValues", desc := "()I" } : Jvm.MethodName)) ∈ lw_all := lw_g (lw_at lw_m7 187 rfl) rfl
theorem q1697 : (Jvm.Cond.code ({ cls := "InnRoad$Road", name := "wrongValues", desc := "()I" } : Jvm.MethodName) prog_8_method_14_code (1 : Nat) (Option.some Jvm.ClassFile.FieldType.int)) ∈ lw_all := lw_g (lw_at lw_m7 188 rfl) rfl
theorem q1703 : (Jvm.Cond.instanceMethod ({ cls := "InnRoad$Road", name := "chain", desc := "()Ljava/util/List;" } : Jvm.MethodName)) ∈ lw_all := lw_g (lw_at lw_m7 194 rfl) rfl
theorem q1704 : (Jvm.Cond.selects "InnRoad$Road" ({ cls := "InnRoad$Road", name := "chain", desc := "()Ljava/util/List;" } : Jvm.MethodName) ({ cls := "InnRoad$Road", name := "chain", desc := "()Ljava/util/List;" } : Jvm.MethodName)) ∈ lw_all := lw_g (lw_at lw_m7 195 rfl) rfl
theorem q1705 : (Jvm.Cond.code ({ cls := "InnRoad$Road", name := "chain", desc := "()Ljava/util/List;" } : Jvm.MethodName) prog_8_method_18_code (3 : Nat) (Option.some (Jvm.ClassFile.FieldType.object "java/util/List"))) ∈ lw_all := lw_g (lw_at lw_m7 196 rfl) rfl
theorem q1706 : (Jvm.Cond.interfaceEntry "InnRoad$Road" (125 : Nat)) ∈ lw_tbl := lw_at lw_m7 197 rfl
theorem q1707 : (Jvm.Cond.methodLink "InnRoad$Road" (125 : Nat) ({ cls := "java/util/List", name := "contains", desc := "(Ljava/lang/Object;)Z" } : Jvm.MethodName)) ∈ lw_all := lw_g (lw_at lw_m7 198 rfl) rfl
theorem q1724 : (Jvm.Cond.interfaceEntry "InnRoad$Road" (129 : Nat)) ∈ lw_tbl := lw_at lw_m7 215 rfl
theorem q1725 : (Jvm.Cond.methodLink "InnRoad$Road" (129 : Nat) ({ cls := "java/util/List", name := "add", desc := "(Ljava/lang/Object;)Z" } : Jvm.MethodName)) ∈ lw_all := lw_g (lw_at lw_m7 216 rfl) rfl
theorem q1742 : (Jvm.Cond.instanceMethod ({ cls := "InnRoad$Road", name := "hasCycle", desc := "()Z" } : Jvm.MethodName)) ∈ lw_all := lw_g (lw_at lw_m7 233 rfl) rfl
theorem q1743 : (Jvm.Cond.selects "InnRoad$Road" ({ cls := "InnRoad$Road", name := "hasCycle", desc := "()Z" } : Jvm.MethodName) ({ cls := "InnRoad$Road", name := "hasCycle", desc := "()Z" } : Jvm.MethodName)) ∈ lw_all := lw_g (lw_at lw_m7 234 rfl) rfl
theorem q1744 : (Jvm.Cond.code ({ cls := "InnRoad$Road", name := "hasCycle", desc := "()Z" } : Jvm.MethodName) prog_8_method_19_code (2 : Nat) (Option.some Jvm.ClassFile.FieldType.boolean)) ∈ lw_all := lw_g (lw_at lw_m7 235 rfl) rfl
theorem q1745 : (Jvm.Cond.methodLink "InnRoad$Road" (131 : Nat) ({ cls := "InnRoad$Road", name := "chain", desc := "()Ljava/util/List;" } : Jvm.MethodName)) ∈ lw_all := lw_g (lw_at lw_m7 236 rfl) rfl
theorem q1746 : (Jvm.Cond.interfaceEntry "InnRoad$Road" (134 : Nat)) ∈ lw_tbl := lw_at lw_m7 237 rfl
theorem q1747 : (Jvm.Cond.methodLink "InnRoad$Road" (134 : Nat) ({ cls := "java/util/List", name := "isEmpty", desc := "()Z" } : Jvm.MethodName)) ∈ lw_all := lw_g (lw_at lw_m7 238 rfl) rfl
theorem q1760 : (Jvm.Cond.instanceMethod ({ cls := "InnRoad$Road", name := "danglingPointers", desc := "()I" } : Jvm.MethodName)) ∈ lw_all := lw_g (lw_at lw_m8 11 rfl) rfl
theorem q1761 : (Jvm.Cond.selects "InnRoad$Road" ({ cls := "InnRoad$Road", name := "danglingPointers", desc := "()I" } : Jvm.MethodName) ({ cls := "InnRoad$Road", name := "danglingPointers", desc := "()I" } : Jvm.MethodName)) ∈ lw_all := lw_g (lw_at lw_m8 12 rfl) rfl
theorem q1762 : (Jvm.Cond.code ({ cls := "InnRoad$Road", name := "danglingPointers", desc := "()I" } : Jvm.MethodName) prog_8_method_21_code (3 : Nat) (Option.some Jvm.ClassFile.FieldType.int)) ∈ lw_all := lw_g (lw_at lw_m8 13 rfl) rfl
theorem q1763 : (Jvm.Cond.methodLink "InnRoad$Road" (138 : Nat) ({ cls := "InnRoad$Road", name := "danglingAt", desc := "(I)I" } : Jvm.MethodName)) ∈ lw_all := lw_g (lw_at lw_m8 14 rfl) rfl
theorem q1764 : (Jvm.Cond.privateMethod ({ cls := "InnRoad$Road", name := "danglingAt", desc := "(I)I" } : Jvm.MethodName)) ∈ lw_tbl := lw_at lw_m8 15 rfl
theorem q1765 : (Jvm.Cond.instanceMethod ({ cls := "InnRoad$Road", name := "danglingAt", desc := "(I)I" } : Jvm.MethodName)) ∈ lw_all := lw_g (lw_at lw_m8 16 rfl) rfl
theorem q1766 : (Jvm.Cond.code ({ cls := "InnRoad$Road", name := "danglingAt", desc := "(I)I" } : Jvm.MethodName) prog_8_method_20_code (2 : Nat) (Option.some Jvm.ClassFile.FieldType.int)) ∈ lw_all := lw_g (lw_at lw_m8 17 rfl) rfl
theorem q1776 : (Jvm.Cond.instanceMethod ({ cls := "InnRoad$Road", name := "descents", desc := "()I" } : Jvm.MethodName)) ∈ lw_all := lw_g (lw_at lw_m8 27 rfl) rfl
theorem q1777 : (Jvm.Cond.selects "InnRoad$Road" ({ cls := "InnRoad$Road", name := "descents", desc := "()I" } : Jvm.MethodName) ({ cls := "InnRoad$Road", name := "descents", desc := "()I" } : Jvm.MethodName)) ∈ lw_all := lw_g (lw_at lw_m8 28 rfl) rfl
theorem q1778 : (Jvm.Cond.code ({ cls := "InnRoad$Road", name := "descents", desc := "()I" } : Jvm.MethodName) prog_8_method_22_code (4 : Nat) (Option.some Jvm.ClassFile.FieldType.int)) ∈ lw_all := lw_g (lw_at lw_m8 29 rfl) rfl
theorem q1790 : (Jvm.Cond.instanceMethod ({ cls := "InnRoad$Road", name := "faultyInn", desc := "(LInnRoad$Links;)I" } : Jvm.MethodName)) ∈ lw_all := lw_g (lw_at lw_m8 41 rfl) rfl
theorem q1791 : (Jvm.Cond.selects "InnRoad$Road" ({ cls := "InnRoad$Road", name := "faultyInn", desc := "(LInnRoad$Links;)I" } : Jvm.MethodName) ({ cls := "InnRoad$Road", name := "faultyInn", desc := "(LInnRoad$Links;)I" } : Jvm.MethodName)) ∈ lw_all := lw_g (lw_at lw_m8 42 rfl) rfl
theorem q1792 : (Jvm.Cond.code ({ cls := "InnRoad$Road", name := "faultyInn", desc := "(LInnRoad$Links;)I" } : Jvm.MethodName) prog_8_method_17_code (3 : Nat) (Option.some Jvm.ClassFile.FieldType.int)) ∈ lw_all := lw_g (lw_at lw_m8 43 rfl) rfl
theorem q1891 : (Jvm.Cond.instanceMethod ({ cls := "InnRoad$Road", name := "emptyPlace", desc := "()I" } : Jvm.MethodName)) ∈ lw_all := lw_g (lw_at lw_m8 142 rfl) rfl
theorem q1892 : (Jvm.Cond.selects "InnRoad$Road" ({ cls := "InnRoad$Road", name := "emptyPlace", desc := "()I" } : Jvm.MethodName) ({ cls := "InnRoad$Road", name := "emptyPlace", desc := "()I" } : Jvm.MethodName)) ∈ lw_all := lw_g (lw_at lw_m8 143 rfl) rfl
theorem q1893 : (Jvm.Cond.code ({ cls := "InnRoad$Road", name := "emptyPlace", desc := "()I" } : Jvm.MethodName) prog_8_method_7_code (2 : Nat) (Option.some Jvm.ClassFile.FieldType.int)) ∈ lw_all := lw_g (lw_at lw_m8 144 rfl) rfl
theorem q2007 : (Jvm.Cond.instanceMethod ({ cls := "InnRoad$Road", name := "repairedValue", desc := "()I" } : Jvm.MethodName)) ∈ lw_all := lw_g (lw_at lw_m9 18 rfl) rfl
theorem q2008 : (Jvm.Cond.selects "InnRoad$Road" ({ cls := "InnRoad$Road", name := "repairedValue", desc := "()I" } : Jvm.MethodName) ({ cls := "InnRoad$Road", name := "repairedValue", desc := "()I" } : Jvm.MethodName)) ∈ lw_all := lw_g (lw_at lw_m9 19 rfl) rfl
theorem q2009 : (Jvm.Cond.code ({ cls := "InnRoad$Road", name := "repairedValue", desc := "()I" } : Jvm.MethodName) prog_8_method_16_code (3 : Nat) (Option.some Jvm.ClassFile.FieldType.int)) ∈ lw_all := lw_g (lw_at lw_m9 20 rfl) rfl
theorem q2010 : (Jvm.Cond.methodLink "InnRoad$Road" (122 : Nat) ({ cls := "InnRoad$Road", name := "faultyInn", desc := "(LInnRoad$Links;)I" } : Jvm.MethodName)) ∈ lw_all := lw_g (lw_at lw_m9 21 rfl) rfl
theorem q2036 : (Jvm.Cond.instanceMethod ({ cls := "InnRoad$Road", name := "stageEnd", desc := "(II)I" } : Jvm.MethodName)) ∈ lw_all := lw_g (lw_at lw_m9 47 rfl) rfl
theorem q2037 : (Jvm.Cond.selects "InnRoad$Road" ({ cls := "InnRoad$Road", name := "stageEnd", desc := "(II)I" } : Jvm.MethodName) ({ cls := "InnRoad$Road", name := "stageEnd", desc := "(II)I" } : Jvm.MethodName)) ∈ lw_all := lw_g (lw_at lw_m9 48 rfl) rfl
theorem q2038 : (Jvm.Cond.code ({ cls := "InnRoad$Road", name := "stageEnd", desc := "(II)I" } : Jvm.MethodName) prog_8_method_25_code (3 : Nat) (Option.some Jvm.ClassFile.FieldType.int)) ∈ lw_all := lw_g (lw_at lw_m9 49 rfl) rfl
theorem q2039 : (Jvm.Cond.methodLink "InnRoad$Road" (150 : Nat) ({ cls := "InnRoad$Road", name := "canRide", desc := "(III)Z" } : Jvm.MethodName)) ∈ lw_all := lw_g (lw_at lw_m9 50 rfl) rfl
theorem q2040 : (Jvm.Cond.instanceMethod ({ cls := "InnRoad$Road", name := "canRide", desc := "(III)Z" } : Jvm.MethodName)) ∈ lw_all := lw_g (lw_at lw_m9 51 rfl) rfl
theorem q2041 : (Jvm.Cond.selects "InnRoad$Road" ({ cls := "InnRoad$Road", name := "canRide", desc := "(III)Z" } : Jvm.MethodName) ({ cls := "InnRoad$Road", name := "canRide", desc := "(III)Z" } : Jvm.MethodName)) ∈ lw_all := lw_g (lw_at lw_m9 52 rfl) rfl
theorem q2042 : (Jvm.Cond.code ({ cls := "InnRoad$Road", name := "canRide", desc := "(III)Z" } : Jvm.MethodName) prog_8_method_24_code (4 : Nat) (Option.some Jvm.ClassFile.FieldType.boolean)) ∈ lw_all := lw_g (lw_at lw_m9 53 rfl) rfl
theorem q2043 : (Jvm.Cond.methodLink "InnRoad$Road" (147 : Nat) ({ cls := "InnRoad$Road", name := "distance", desc := "(II)I" } : Jvm.MethodName)) ∈ lw_all := lw_g (lw_at lw_m9 54 rfl) rfl
theorem q2903 : (Jvm.Cond.castable "InnRoad$Road" "InnRoad$Copyable") ∈ lw_tbl := lw_at lw_m12 194 rfl
theorem q2907 : (Jvm.Cond.castable "InnRoad$Road" "java/lang/Object") ∈ lw_tbl := lw_at lw_m12 198 rfl
theorem in_X2 : ∀ w ∈ wsX20, w ∈ lw_all := lw_in wsX20 [185, 187, 189, 191, 193] (by decide +kernel) (by decide +kernel)
/-! InnRoad$Links -/
set_option maxRecDepth 100000
def RX3 : String := "InnRoad$Links"
def TX3 : u_T := fun k => match k with
  | 0 => ("InnRoad$Links", "next", "[I", true)
  | 1 => ("InnRoad$Links", "skip", "[I", true)
  | 2 => ("InnRoad$Links", "first", "I", false)
  | 3 => ("InnRoad$Links", "second", "I", false)
  | _ => ("InnRoad$Links", "count", "I", false)
def tyX3 : Nat → FieldType := fun k => match k with
  | 0 => .array .int
  | 1 => .array .int
  | 2 => .int
  | 3 => .int
  | _ => .int
abbrev wsX30 : List Cond := u_ws RX3 TX3 5
theorem nmX3 : ∀ a, a < 5 → ∀ b, b < 5 → a ≠ b → (TX3 a).2.1 ≠ (TX3 b).2.1 := by decide +kernel
theorem tyX3_ok : ∀ k, k < 5 → parseFieldDescriptor (TX3 k).2.2.1 = some (tyX3 k) := by decide +kernel
abbrev cX3_init : ByteArray := prog_5_method_1_code
def yX3_init : MethodName := ⟨RX3, "<init>", "()V"⟩
def dkwX3_init_2 : List UInt8 := [180, 0, 15, 27, 2, 79, 132, 1, 1, 167, 255, 233, 177]
abbrev dktX3_init_2 : List UInt8 := dkwX3_init_2 ++ []
def dkwX3_init_1 : List UInt8 := [181, 0, 18, 42, 2, 181, 0, 22, 3, 60, 27, 16, 12, 162, 0, 23, 42, 180, 0, 9, 27, 2, 79, 42]
abbrev dktX3_init_1 : List UInt8 := dkwX3_init_1 ++ dktX3_init_2
def dkwX3_init_0 : List UInt8 := [42, 183, 0, 3, 42, 16, 12, 188, 10, 181, 0, 9, 42, 16, 12, 188, 10, 181, 0, 15, 42, 2]
abbrev dktX3_init_0 : List UInt8 := dkwX3_init_0 ++ dktX3_init_1
theorem dksX3_init_0 : cX3_init.data.toList.drop 0 = dktX3_init_0 := by decide +kernel
theorem dksX3_init_1 : cX3_init.data.toList.drop 22 = dktX3_init_1 := dk_seg dksX3_init_0 22 rfl rfl
theorem dksX3_init_2 : cX3_init.data.toList.drop 46 = dktX3_init_2 := dk_seg dksX3_init_1 24 rfl rfl
theorem dX3_init_0 : decode cX3_init 0 = .ok (.aload_n 0, 1) := dk_42 (dk_at dksX3_init_0 0 rfl rfl)
theorem dX3_init_1 : decode cX3_init 1 = .ok (.invokespecial 3, 3) := dk_183 0 3 (dk_at dksX3_init_0 1 rfl rfl)
theorem dX3_init_4 : decode cX3_init 4 = .ok (.aload_n 0, 1) := dk_42 (dk_at dksX3_init_0 4 rfl rfl)
theorem dX3_init_5 : decode cX3_init 5 = .ok (.bipush 12, 2) := dk_16 12 (dk_at dksX3_init_0 5 rfl rfl)
theorem dX3_init_7 : decode cX3_init 7 = .ok (.newarray .int, 2) := dk_188_10 (dk_at dksX3_init_0 7 rfl rfl)
theorem dX3_init_9 : decode cX3_init 9 = .ok (.putfield 9, 3) := dk_181 0 9 (dk_at dksX3_init_0 9 rfl rfl)
theorem dX3_init_12 : decode cX3_init 12 = .ok (.aload_n 0, 1) := dk_42 (dk_at dksX3_init_0 12 rfl rfl)
theorem dX3_init_13 : decode cX3_init 13 = .ok (.bipush 12, 2) := dk_16 12 (dk_at dksX3_init_0 13 rfl rfl)
theorem dX3_init_15 : decode cX3_init 15 = .ok (.newarray .int, 2) := dk_188_10 (dk_at dksX3_init_0 15 rfl rfl)
theorem dX3_init_17 : decode cX3_init 17 = .ok (.putfield 15, 3) := dk_181 0 15 (dk_at dksX3_init_0 17 rfl rfl)
theorem dX3_init_20 : decode cX3_init 20 = .ok (.aload_n 0, 1) := dk_42 (dk_at dksX3_init_0 20 rfl rfl)
theorem dX3_init_21 : decode cX3_init 21 = .ok (.iconst (-1), 1) := dk_2 (dk_at dksX3_init_0 21 rfl rfl)
theorem dX3_init_22 : decode cX3_init 22 = .ok (.putfield 18, 3) := dk_181 0 18 (dk_at dksX3_init_1 0 rfl rfl)
theorem dX3_init_25 : decode cX3_init 25 = .ok (.aload_n 0, 1) := dk_42 (dk_at dksX3_init_1 3 rfl rfl)
theorem dX3_init_26 : decode cX3_init 26 = .ok (.iconst (-1), 1) := dk_2 (dk_at dksX3_init_1 4 rfl rfl)
theorem dX3_init_27 : decode cX3_init 27 = .ok (.putfield 22, 3) := dk_181 0 22 (dk_at dksX3_init_1 5 rfl rfl)
theorem dX3_init_30 : decode cX3_init 30 = .ok (.iconst 0, 1) := dk_3 (dk_at dksX3_init_1 8 rfl rfl)
theorem dX3_init_31 : decode cX3_init 31 = .ok (.istore_n 1, 1) := dk_60 (dk_at dksX3_init_1 9 rfl rfl)
theorem dX3_init_32 : decode cX3_init 32 = .ok (.iload_n 1, 1) := dk_27 (dk_at dksX3_init_1 10 rfl rfl)
theorem dX3_init_33 : decode cX3_init 33 = .ok (.bipush 12, 2) := dk_16 12 (dk_at dksX3_init_1 11 rfl rfl)
theorem dX3_init_35 : decode cX3_init 35 = .ok (.if_icmp .ge 23, 3) := dk_162 0 23 (dk_at dksX3_init_1 13 rfl rfl)
theorem dX3_init_38 : decode cX3_init 38 = .ok (.aload_n 0, 1) := dk_42 (dk_at dksX3_init_1 16 rfl rfl)
theorem dX3_init_39 : decode cX3_init 39 = .ok (.getfield 9, 3) := dk_180 0 9 (dk_at dksX3_init_1 17 rfl rfl)
theorem dX3_init_42 : decode cX3_init 42 = .ok (.iload_n 1, 1) := dk_27 (dk_at dksX3_init_1 20 rfl rfl)
theorem dX3_init_43 : decode cX3_init 43 = .ok (.iconst (-1), 1) := dk_2 (dk_at dksX3_init_1 21 rfl rfl)
theorem dX3_init_44 : decode cX3_init 44 = .ok (.iastore, 1) := dk_79 (dk_at dksX3_init_1 22 rfl rfl)
theorem dX3_init_45 : decode cX3_init 45 = .ok (.aload_n 0, 1) := dk_42 (dk_at dksX3_init_1 23 rfl rfl)
theorem dX3_init_46 : decode cX3_init 46 = .ok (.getfield 15, 3) := dk_180 0 15 (dk_at dksX3_init_2 0 rfl rfl)
theorem dX3_init_49 : decode cX3_init 49 = .ok (.iload_n 1, 1) := dk_27 (dk_at dksX3_init_2 3 rfl rfl)
theorem dX3_init_50 : decode cX3_init 50 = .ok (.iconst (-1), 1) := dk_2 (dk_at dksX3_init_2 4 rfl rfl)
theorem dX3_init_51 : decode cX3_init 51 = .ok (.iastore, 1) := dk_79 (dk_at dksX3_init_2 5 rfl rfl)
theorem dX3_init_52 : decode cX3_init 52 = .ok (.iinc 1 1, 3) := dk_132 1 1 (dk_at dksX3_init_2 6 rfl rfl)
theorem dX3_init_55 : decode cX3_init 55 = .ok (.goto (-23), 3) := dk_167 255 233 (dk_at dksX3_init_2 9 rfl rfl)
theorem dX3_init_58 : decode cX3_init 58 = .ok (.return_, 1) := dk_177 (dk_at dksX3_init_2 12 rfl rfl)
abbrev cX3_take : ByteArray := prog_5_method_3_code
def yX3_take : MethodName := ⟨RX3, "take", "(LInnRoad$Links;)V"⟩
def dkwX3_take_2 : List UInt8 := [180, 0, 36, 181, 0, 36, 177]
abbrev dktX3_take_2 : List UInt8 := dkwX3_take_2 ++ []
def dkwX3_take_1 : List UInt8 := [3, 16, 12, 184, 0, 30, 42, 43, 180, 0, 18, 181, 0, 18, 42, 43, 180, 0, 22, 181, 0, 22, 42, 43]
abbrev dktX3_take_1 : List UInt8 := dkwX3_take_1 ++ dktX3_take_2
def dkwX3_take_0 : List UInt8 := [43, 180, 0, 9, 3, 42, 180, 0, 9, 3, 16, 12, 184, 0, 30, 43, 180, 0, 15, 3, 42, 180, 0, 15]
abbrev dktX3_take_0 : List UInt8 := dkwX3_take_0 ++ dktX3_take_1
theorem dksX3_take_0 : cX3_take.data.toList.drop 0 = dktX3_take_0 := by decide +kernel
theorem dksX3_take_1 : cX3_take.data.toList.drop 24 = dktX3_take_1 := dk_seg dksX3_take_0 24 rfl rfl
theorem dksX3_take_2 : cX3_take.data.toList.drop 48 = dktX3_take_2 := dk_seg dksX3_take_1 24 rfl rfl
theorem dX3_take_0 : decode cX3_take 0 = .ok (.aload_n 1, 1) := dk_43 (dk_at dksX3_take_0 0 rfl rfl)
theorem dX3_take_1 : decode cX3_take 1 = .ok (.getfield 9, 3) := dk_180 0 9 (dk_at dksX3_take_0 1 rfl rfl)
theorem dX3_take_4 : decode cX3_take 4 = .ok (.iconst 0, 1) := dk_3 (dk_at dksX3_take_0 4 rfl rfl)
theorem dX3_take_5 : decode cX3_take 5 = .ok (.aload_n 0, 1) := dk_42 (dk_at dksX3_take_0 5 rfl rfl)
theorem dX3_take_6 : decode cX3_take 6 = .ok (.getfield 9, 3) := dk_180 0 9 (dk_at dksX3_take_0 6 rfl rfl)
theorem dX3_take_9 : decode cX3_take 9 = .ok (.iconst 0, 1) := dk_3 (dk_at dksX3_take_0 9 rfl rfl)
theorem dX3_take_10 : decode cX3_take 10 = .ok (.bipush 12, 2) := dk_16 12 (dk_at dksX3_take_0 10 rfl rfl)
theorem dX3_take_12 : decode cX3_take 12 = .ok (.invokestatic 30, 3) := dk_184 0 30 (dk_at dksX3_take_0 12 rfl rfl)
theorem dX3_take_15 : decode cX3_take 15 = .ok (.aload_n 1, 1) := dk_43 (dk_at dksX3_take_0 15 rfl rfl)
theorem dX3_take_16 : decode cX3_take 16 = .ok (.getfield 15, 3) := dk_180 0 15 (dk_at dksX3_take_0 16 rfl rfl)
theorem dX3_take_19 : decode cX3_take 19 = .ok (.iconst 0, 1) := dk_3 (dk_at dksX3_take_0 19 rfl rfl)
theorem dX3_take_20 : decode cX3_take 20 = .ok (.aload_n 0, 1) := dk_42 (dk_at dksX3_take_0 20 rfl rfl)
theorem dX3_take_21 : decode cX3_take 21 = .ok (.getfield 15, 3) := dk_180 0 15 (dk_at dksX3_take_0 21 rfl rfl)
theorem dX3_take_24 : decode cX3_take 24 = .ok (.iconst 0, 1) := dk_3 (dk_at dksX3_take_1 0 rfl rfl)
theorem dX3_take_25 : decode cX3_take 25 = .ok (.bipush 12, 2) := dk_16 12 (dk_at dksX3_take_1 1 rfl rfl)
theorem dX3_take_27 : decode cX3_take 27 = .ok (.invokestatic 30, 3) := dk_184 0 30 (dk_at dksX3_take_1 3 rfl rfl)
theorem dX3_take_30 : decode cX3_take 30 = .ok (.aload_n 0, 1) := dk_42 (dk_at dksX3_take_1 6 rfl rfl)
theorem dX3_take_31 : decode cX3_take 31 = .ok (.aload_n 1, 1) := dk_43 (dk_at dksX3_take_1 7 rfl rfl)
theorem dX3_take_32 : decode cX3_take 32 = .ok (.getfield 18, 3) := dk_180 0 18 (dk_at dksX3_take_1 8 rfl rfl)
theorem dX3_take_35 : decode cX3_take 35 = .ok (.putfield 18, 3) := dk_181 0 18 (dk_at dksX3_take_1 11 rfl rfl)
theorem dX3_take_38 : decode cX3_take 38 = .ok (.aload_n 0, 1) := dk_42 (dk_at dksX3_take_1 14 rfl rfl)
theorem dX3_take_39 : decode cX3_take 39 = .ok (.aload_n 1, 1) := dk_43 (dk_at dksX3_take_1 15 rfl rfl)
theorem dX3_take_40 : decode cX3_take 40 = .ok (.getfield 22, 3) := dk_180 0 22 (dk_at dksX3_take_1 16 rfl rfl)
theorem dX3_take_43 : decode cX3_take 43 = .ok (.putfield 22, 3) := dk_181 0 22 (dk_at dksX3_take_1 19 rfl rfl)
theorem dX3_take_46 : decode cX3_take 46 = .ok (.aload_n 0, 1) := dk_42 (dk_at dksX3_take_1 22 rfl rfl)
theorem dX3_take_47 : decode cX3_take 47 = .ok (.aload_n 1, 1) := dk_43 (dk_at dksX3_take_1 23 rfl rfl)
theorem dX3_take_48 : decode cX3_take 48 = .ok (.getfield 36, 3) := dk_180 0 36 (dk_at dksX3_take_2 0 rfl rfl)
theorem dX3_take_51 : decode cX3_take 51 = .ok (.putfield 36, 3) := dk_181 0 36 (dk_at dksX3_take_2 3 rfl rfl)
theorem dX3_take_54 : decode cX3_take 54 = .ok (.return_, 1) := dk_177 (dk_at dksX3_take_2 6 rfl rfl)
theorem q72 : (Jvm.Cond.initialized "InnRoad$Links") ∈ lw_all := lw_g (lw_at lw_m1 3 rfl) rfl
theorem q132 : (Jvm.Cond.instantiable "InnRoad$Links" (5 : Nat)) ∈ lw_all := lw_g (lw_at lw_m1 63 rfl) rfl
theorem q134 : (Jvm.Cond.instanceMethod ({ cls := "InnRoad$Links", name := "<init>", desc := "()V" } : Jvm.MethodName)) ∈ lw_all := lw_g (lw_at lw_m1 65 rfl) rfl
theorem q135 : (Jvm.Cond.code ({ cls := "InnRoad$Links", name := "<init>", desc := "()V" } : Jvm.MethodName) prog_5_method_1_code (2 : Nat) (Option.none : Option Jvm.ClassFile.FieldType)) ∈ lw_all := lw_g (lw_at lw_m1 66 rfl) rfl
theorem q136 : (Jvm.Cond.methodLink "InnRoad$Links" (3 : Nat) ({ cls := "java/lang/Object", name := "<init>", desc := "()V" } : Jvm.MethodName)) ∈ lw_all := lw_g (lw_at lw_m1 67 rfl) rfl
theorem q137 : (Jvm.Cond.fieldLink "InnRoad$Links" (9 : Nat) "InnRoad$Links" "next" "[I") ∈ lw_all := lw_g (lw_at lw_m1 68 rfl) rfl
theorem q142 : (Jvm.Cond.fieldLink "InnRoad$Links" (15 : Nat) "InnRoad$Links" "skip" "[I") ∈ lw_all := lw_g (lw_at lw_m1 73 rfl) rfl
theorem q146 : (Jvm.Cond.fieldLink "InnRoad$Links" (18 : Nat) "InnRoad$Links" "first" "I") ∈ lw_all := lw_g (lw_at lw_m1 77 rfl) rfl
theorem q150 : (Jvm.Cond.fieldLink "InnRoad$Links" (22 : Nat) "InnRoad$Links" "second" "I") ∈ lw_all := lw_g (lw_at lw_m1 81 rfl) rfl
theorem q154 : (Jvm.Cond.fieldLink "InnRoad$Links" (36 : Nat) "InnRoad$Links" "count" "I") ∈ lw_all := lw_g (lw_at lw_m1 85 rfl) rfl
theorem q158 : (Jvm.Cond.laysFinal "InnRoad$Links" "InnRoad$Links" "next" "[I") ∈ lw_all := lw_g (lw_at lw_m1 89 rfl) rfl
theorem q159 : (Jvm.Cond.soleField "InnRoad$Links" "next") ∈ lw_all := lw_g (lw_at lw_m1 90 rfl) rfl
theorem q160 : (Jvm.Cond.laysFinal "InnRoad$Links" "InnRoad$Links" "skip" "[I") ∈ lw_all := lw_g (lw_at lw_m1 91 rfl) rfl
theorem q161 : (Jvm.Cond.soleField "InnRoad$Links" "skip") ∈ lw_all := lw_g (lw_at lw_m1 92 rfl) rfl
theorem q162 : (Jvm.Cond.lays "InnRoad$Links" "InnRoad$Links" "first" "I") ∈ lw_all := lw_g (lw_at lw_m1 93 rfl) rfl
theorem q163 : (Jvm.Cond.soleField "InnRoad$Links" "first") ∈ lw_all := lw_g (lw_at lw_m1 94 rfl) rfl
theorem q164 : (Jvm.Cond.lays "InnRoad$Links" "InnRoad$Links" "second" "I") ∈ lw_all := lw_g (lw_at lw_m1 95 rfl) rfl
theorem q165 : (Jvm.Cond.soleField "InnRoad$Links" "second") ∈ lw_all := lw_g (lw_at lw_m1 96 rfl) rfl
theorem q166 : (Jvm.Cond.lays "InnRoad$Links" "InnRoad$Links" "count" "I") ∈ lw_all := lw_g (lw_at lw_m1 97 rfl) rfl
theorem q167 : (Jvm.Cond.soleField "InnRoad$Links" "count") ∈ lw_all := lw_g (lw_at lw_m1 98 rfl) rfl
theorem q168 : (Jvm.Cond.superclass "InnRoad$Links" "java/lang/Object") ∈ lw_all := lw_g (lw_at lw_m1 99 rfl) rfl
theorem q712 : (Jvm.Cond.selects "InnRoad$Links" ({ cls := "java/lang/Object", name := "getClass", desc := "()Ljava/lang/Class;" } : Jvm.MethodName) ({ cls := "java/lang/Object", name := "getClass", desc := "()Ljava/lang/Class;" } : Jvm.MethodName)) ∈ lw_all := lw_g (lw_at lw_m3 163 rfl) rfl
theorem q758 : (Jvm.Cond.instanceMethod ({ cls := "InnRoad$Links", name := "take", desc := "(LInnRoad$Links;)V" } : Jvm.MethodName)) ∈ lw_all := lw_g (lw_at lw_m3 209 rfl) rfl
theorem q759 : (Jvm.Cond.selects "InnRoad$Links" ({ cls := "InnRoad$Links", name := "take", desc := "(LInnRoad$Links;)V" } : Jvm.MethodName) ({ cls := "InnRoad$Links", name := "take", desc := "(LInnRoad$Links;)V" } : Jvm.MethodName)) ∈ lw_all := lw_g (lw_at lw_m3 210 rfl) rfl
theorem q760 : (Jvm.Cond.code ({ cls := "InnRoad$Links", name := "take", desc := "(LInnRoad$Links;)V" } : Jvm.MethodName) prog_5_method_3_code (2 : Nat) (Option.none : Option Jvm.ClassFile.FieldType)) ∈ lw_all := lw_g (lw_at lw_m3 211 rfl) rfl
theorem q761 : (Jvm.Cond.methodLink "InnRoad$Links" (30 : Nat) ({ cls := "java/lang/System", name := "arraycopy", desc := "(Ljava/lang/Object;ILjava/lang/Object;II)V" } : Jvm.MethodName)) ∈ lw_all := lw_g (lw_at lw_m3 212 rfl) rfl
theorem q984 : (Jvm.Cond.selects "InnRoad$Links" ({ cls := "java/lang/Object", name := "hashCode", desc := "()I" } : Jvm.MethodName) ({ cls := "java/lang/Object", name := "hashCode", desc := "()I" } : Jvm.MethodName)) ∈ lw_all := lw_g (lw_at lw_m4 195 rfl) rfl
theorem q1077 : (Jvm.Cond.selects "InnRoad$Links" ({ cls := "java/lang/Object", name := "equals", desc := "(Ljava/lang/Object;)Z" } : Jvm.MethodName) ({ cls := "java/lang/Object", name := "equals", desc := "(Ljava/lang/Object;)Z" } : Jvm.MethodName)) ∈ lw_all := lw_g (lw_at lw_m5 48 rfl) rfl
theorem q2902 : (Jvm.Cond.castable "InnRoad$Links" "InnRoad$Copyable") ∈ lw_tbl := lw_at lw_m12 193 rfl
theorem q2908 : (Jvm.Cond.castable "InnRoad$Links" "java/lang/Object") ∈ lw_tbl := lw_at lw_m12 199 rfl
theorem in_X3 : ∀ w ∈ wsX30, w ∈ lw_all := lw_in wsX30 [158, 160, 162, 164, 166] (by decide +kernel) (by decide +kernel)
/-! InnRoad$History -/
set_option maxRecDepth 100000
def RX4 : String := "InnRoad$History"
def TX4 : u_T := fun k => match k with
  | 0 => ("InnRoad$History", "values", "Ljava/util/ArrayDeque;", true)
  | _ => ("InnRoad$History", "capacity", "I", true)
def tyX4 : Nat → FieldType := fun k => match k with
  | 0 => .object "java/util/ArrayDeque"
  | _ => .int
abbrev wsX40 : List Cond := u_ws RX4 TX4 2
theorem nmX4 : ∀ a, a < 2 → ∀ b, b < 2 → a ≠ b → (TX4 a).2.1 ≠ (TX4 b).2.1 := by decide +kernel
theorem tyX4_ok : ∀ k, k < 2 → parseFieldDescriptor (TX4 k).2.2.1 = some (tyX4 k) := by decide +kernel
abbrev cX4_init : ByteArray := prog_3_method_1_code
def yX4_init : MethodName := ⟨RX4, "<init>", "(I)V"⟩
def dkwX4_init_0 : List UInt8 := [42, 183, 0, 1, 42, 187, 0, 7, 89, 183, 0, 9, 181, 0, 10, 42, 27, 181, 0, 16, 177]
abbrev dktX4_init_0 : List UInt8 := dkwX4_init_0 ++ []
theorem dksX4_init_0 : cX4_init.data.toList.drop 0 = dktX4_init_0 := by decide +kernel
theorem dX4_init_0 : decode cX4_init 0 = .ok (.aload_n 0, 1) := dk_42 (dk_at dksX4_init_0 0 rfl rfl)
theorem dX4_init_1 : decode cX4_init 1 = .ok (.invokespecial 1, 3) := dk_183 0 1 (dk_at dksX4_init_0 1 rfl rfl)
theorem dX4_init_4 : decode cX4_init 4 = .ok (.aload_n 0, 1) := dk_42 (dk_at dksX4_init_0 4 rfl rfl)
theorem dX4_init_5 : decode cX4_init 5 = .ok (.new 7, 3) := dk_187 0 7 (dk_at dksX4_init_0 5 rfl rfl)
theorem dX4_init_8 : decode cX4_init 8 = .ok (.dup, 1) := dk_89 (dk_at dksX4_init_0 8 rfl rfl)
theorem dX4_init_9 : decode cX4_init 9 = .ok (.invokespecial 9, 3) := dk_183 0 9 (dk_at dksX4_init_0 9 rfl rfl)
theorem dX4_init_12 : decode cX4_init 12 = .ok (.putfield 10, 3) := dk_181 0 10 (dk_at dksX4_init_0 12 rfl rfl)
theorem dX4_init_15 : decode cX4_init 15 = .ok (.aload_n 0, 1) := dk_42 (dk_at dksX4_init_0 15 rfl rfl)
theorem dX4_init_16 : decode cX4_init 16 = .ok (.iload_n 1, 1) := dk_27 (dk_at dksX4_init_0 16 rfl rfl)
theorem dX4_init_17 : decode cX4_init 17 = .ok (.putfield 16, 3) := dk_181 0 16 (dk_at dksX4_init_0 17 rfl rfl)
theorem dX4_init_20 : decode cX4_init 20 = .ok (.return_, 1) := dk_177 (dk_at dksX4_init_0 20 rfl rfl)
abbrev cX4_add : ByteArray := prog_3_method_2_code
def yX4_add : MethodName := ⟨RX4, "add", "(LInnRoad$Copyable;)V"⟩
def dkwX4_add_1 : List UInt8 := [77, 42, 180, 0, 10, 43, 182, 0, 30, 177]
abbrev dktX4_add_1 : List UInt8 := dkwX4_add_1 ++ []
def dkwX4_add_0 : List UInt8 := [42, 180, 0, 10, 182, 0, 20, 42, 180, 0, 16, 160, 0, 14, 42, 180, 0, 10, 182, 0, 24, 192, 0, 28]
abbrev dktX4_add_0 : List UInt8 := dkwX4_add_0 ++ dktX4_add_1
theorem dksX4_add_0 : cX4_add.data.toList.drop 0 = dktX4_add_0 := by decide +kernel
theorem dksX4_add_1 : cX4_add.data.toList.drop 24 = dktX4_add_1 := dk_seg dksX4_add_0 24 rfl rfl
theorem dX4_add_0 : decode cX4_add 0 = .ok (.aload_n 0, 1) := dk_42 (dk_at dksX4_add_0 0 rfl rfl)
theorem dX4_add_1 : decode cX4_add 1 = .ok (.getfield 10, 3) := dk_180 0 10 (dk_at dksX4_add_0 1 rfl rfl)
theorem dX4_add_4 : decode cX4_add 4 = .ok (.invokevirtual 20, 3) := dk_182 0 20 (dk_at dksX4_add_0 4 rfl rfl)
theorem dX4_add_7 : decode cX4_add 7 = .ok (.aload_n 0, 1) := dk_42 (dk_at dksX4_add_0 7 rfl rfl)
theorem dX4_add_8 : decode cX4_add 8 = .ok (.getfield 16, 3) := dk_180 0 16 (dk_at dksX4_add_0 8 rfl rfl)
theorem dX4_add_11 : decode cX4_add 11 = .ok (.if_icmp .ne 14, 3) := dk_160 0 14 (dk_at dksX4_add_0 11 rfl rfl)
theorem dX4_add_14 : decode cX4_add 14 = .ok (.aload_n 0, 1) := dk_42 (dk_at dksX4_add_0 14 rfl rfl)
theorem dX4_add_15 : decode cX4_add 15 = .ok (.getfield 10, 3) := dk_180 0 10 (dk_at dksX4_add_0 15 rfl rfl)
theorem dX4_add_18 : decode cX4_add 18 = .ok (.invokevirtual 24, 3) := dk_182 0 24 (dk_at dksX4_add_0 18 rfl rfl)
theorem dX4_add_21 : decode cX4_add 21 = .ok (.checkcast 28, 3) := dk_192 0 28 (dk_at dksX4_add_0 21 rfl rfl)
theorem dX4_add_24 : decode cX4_add 24 = .ok (.astore_n 2, 1) := dk_77 (dk_at dksX4_add_1 0 rfl rfl)
theorem dX4_add_25 : decode cX4_add 25 = .ok (.aload_n 0, 1) := dk_42 (dk_at dksX4_add_1 1 rfl rfl)
theorem dX4_add_26 : decode cX4_add 26 = .ok (.getfield 10, 3) := dk_180 0 10 (dk_at dksX4_add_1 2 rfl rfl)
theorem dX4_add_29 : decode cX4_add 29 = .ok (.aload_n 1, 1) := dk_43 (dk_at dksX4_add_1 5 rfl rfl)
theorem dX4_add_30 : decode cX4_add 30 = .ok (.invokevirtual 30, 3) := dk_182 0 30 (dk_at dksX4_add_1 6 rfl rfl)
theorem dX4_add_33 : decode cX4_add 33 = .ok (.return_, 1) := dk_177 (dk_at dksX4_add_1 9 rfl rfl)
abbrev cX4_size : ByteArray := prog_3_method_4_code
def yX4_size : MethodName := ⟨RX4, "size", "()I"⟩
def dkwX4_size_0 : List UInt8 := [42, 180, 0, 10, 182, 0, 20, 172]
abbrev dktX4_size_0 : List UInt8 := dkwX4_size_0 ++ []
theorem dksX4_size_0 : cX4_size.data.toList.drop 0 = dktX4_size_0 := by decide +kernel
theorem dX4_size_0 : decode cX4_size 0 = .ok (.aload_n 0, 1) := dk_42 (dk_at dksX4_size_0 0 rfl rfl)
theorem dX4_size_1 : decode cX4_size 1 = .ok (.getfield 10, 3) := dk_180 0 10 (dk_at dksX4_size_0 1 rfl rfl)
theorem dX4_size_4 : decode cX4_size 4 = .ok (.invokevirtual 20, 3) := dk_182 0 20 (dk_at dksX4_size_0 4 rfl rfl)
theorem dX4_size_7 : decode cX4_size 7 = .ok (.ireturn, 1) := dk_172 (dk_at dksX4_size_0 7 rfl rfl)
abbrev cX4_takeLatest : ByteArray := prog_3_method_3_code
def yX4_takeLatest : MethodName := ⟨RX4, "takeLatest", "()LInnRoad$Copyable;"⟩
def dkwX4_takeLatest_0 : List UInt8 := [42, 180, 0, 10, 182, 0, 34, 192, 0, 28, 176]
abbrev dktX4_takeLatest_0 : List UInt8 := dkwX4_takeLatest_0 ++ []
theorem dksX4_takeLatest_0 : cX4_takeLatest.data.toList.drop 0 = dktX4_takeLatest_0 := by decide +kernel
theorem dX4_takeLatest_0 : decode cX4_takeLatest 0 = .ok (.aload_n 0, 1) := dk_42 (dk_at dksX4_takeLatest_0 0 rfl rfl)
theorem dX4_takeLatest_1 : decode cX4_takeLatest 1 = .ok (.getfield 10, 3) := dk_180 0 10 (dk_at dksX4_takeLatest_0 1 rfl rfl)
theorem dX4_takeLatest_4 : decode cX4_takeLatest 4 = .ok (.invokevirtual 34, 3) := dk_182 0 34 (dk_at dksX4_takeLatest_0 4 rfl rfl)
theorem dX4_takeLatest_7 : decode cX4_takeLatest 7 = .ok (.checkcast 28, 3) := dk_192 0 28 (dk_at dksX4_takeLatest_0 7 rfl rfl)
theorem dX4_takeLatest_10 : decode cX4_takeLatest 10 = .ok (.areturn, 1) := dk_176 (dk_at dksX4_takeLatest_0 10 rfl rfl)
theorem q73 : (Jvm.Cond.initialized "InnRoad$History") ∈ lw_all := lw_g (lw_at lw_m1 4 rfl) rfl
theorem q197 : (Jvm.Cond.instantiable "InnRoad$History" (2 : Nat)) ∈ lw_all := lw_g (lw_at lw_m1 128 rfl) rfl
theorem q199 : (Jvm.Cond.instanceMethod ({ cls := "InnRoad$History", name := "<init>", desc := "(I)V" } : Jvm.MethodName)) ∈ lw_all := lw_g (lw_at lw_m1 130 rfl) rfl
theorem q200 : (Jvm.Cond.code ({ cls := "InnRoad$History", name := "<init>", desc := "(I)V" } : Jvm.MethodName) prog_3_method_1_code (2 : Nat) (Option.none : Option Jvm.ClassFile.FieldType)) ∈ lw_all := lw_g (lw_at lw_m1 131 rfl) rfl
theorem q201 : (Jvm.Cond.methodLink "InnRoad$History" (1 : Nat) ({ cls := "java/lang/Object", name := "<init>", desc := "()V" } : Jvm.MethodName)) ∈ lw_all := lw_g (lw_at lw_m1 132 rfl) rfl
theorem q202 : (Jvm.Cond.classLink "InnRoad$History" (7 : Nat) "java/util/ArrayDeque") ∈ lw_all := lw_g (lw_at lw_m1 133 rfl) rfl
theorem q204 : (Jvm.Cond.methodLink "InnRoad$History" (9 : Nat) ({ cls := "java/util/ArrayDeque", name := "<init>", desc := "()V" } : Jvm.MethodName)) ∈ lw_all := lw_g (lw_at lw_m1 135 rfl) rfl
theorem q223 : (Jvm.Cond.fieldLink "InnRoad$History" (10 : Nat) "InnRoad$History" "values" "Ljava/util/ArrayDeque;") ∈ lw_all := lw_g (lw_at lw_m1 154 rfl) rfl
theorem q224 : (Jvm.Cond.fieldLink "InnRoad$History" (16 : Nat) "InnRoad$History" "capacity" "I") ∈ lw_all := lw_g (lw_at lw_m1 155 rfl) rfl
theorem q225 : (Jvm.Cond.laysFinal "InnRoad$History" "InnRoad$History" "values" "Ljava/util/ArrayDeque;") ∈ lw_all := lw_g (lw_at lw_m1 156 rfl) rfl
theorem q226 : (Jvm.Cond.soleField "InnRoad$History" "values") ∈ lw_all := lw_g (lw_at lw_m1 157 rfl) rfl
theorem q227 : (Jvm.Cond.laysFinal "InnRoad$History" "InnRoad$History" "capacity" "I") ∈ lw_all := lw_g (lw_at lw_m1 158 rfl) rfl
theorem q228 : (Jvm.Cond.soleField "InnRoad$History" "capacity") ∈ lw_all := lw_g (lw_at lw_m1 159 rfl) rfl
theorem q229 : (Jvm.Cond.superclass "InnRoad$History" "java/lang/Object") ∈ lw_all := lw_g (lw_at lw_m1 160 rfl) rfl
theorem q710 : (Jvm.Cond.selects "InnRoad$History" ({ cls := "java/lang/Object", name := "getClass", desc := "()Ljava/lang/Class;" } : Jvm.MethodName) ({ cls := "java/lang/Object", name := "getClass", desc := "()Ljava/lang/Class;" } : Jvm.MethodName)) ∈ lw_all := lw_g (lw_at lw_m3 161 rfl) rfl
theorem q982 : (Jvm.Cond.selects "InnRoad$History" ({ cls := "java/lang/Object", name := "hashCode", desc := "()I" } : Jvm.MethodName) ({ cls := "java/lang/Object", name := "hashCode", desc := "()I" } : Jvm.MethodName)) ∈ lw_all := lw_g (lw_at lw_m4 193 rfl) rfl
theorem q1075 : (Jvm.Cond.selects "InnRoad$History" ({ cls := "java/lang/Object", name := "equals", desc := "(Ljava/lang/Object;)Z" } : Jvm.MethodName) ({ cls := "java/lang/Object", name := "equals", desc := "(Ljava/lang/Object;)Z" } : Jvm.MethodName)) ∈ lw_all := lw_g (lw_at lw_m5 46 rfl) rfl
theorem q1543 : (Jvm.Cond.instanceMethod ({ cls := "InnRoad$History", name := "add", desc := "(LInnRoad$Copyable;)V" } : Jvm.MethodName)) ∈ lw_all := lw_g (lw_at lw_m7 34 rfl) rfl
theorem q1544 : (Jvm.Cond.selects "InnRoad$History" ({ cls := "InnRoad$History", name := "add", desc := "(LInnRoad$Copyable;)V" } : Jvm.MethodName) ({ cls := "InnRoad$History", name := "add", desc := "(LInnRoad$Copyable;)V" } : Jvm.MethodName)) ∈ lw_all := lw_g (lw_at lw_m7 35 rfl) rfl
theorem q1545 : (Jvm.Cond.code ({ cls := "InnRoad$History", name := "add", desc := "(LInnRoad$Copyable;)V" } : Jvm.MethodName) prog_3_method_2_code (3 : Nat) (Option.none : Option Jvm.ClassFile.FieldType)) ∈ lw_all := lw_g (lw_at lw_m7 36 rfl) rfl
theorem q1546 : (Jvm.Cond.methodLink "InnRoad$History" (20 : Nat) ({ cls := "java/util/ArrayDeque", name := "size", desc := "()I" } : Jvm.MethodName)) ∈ lw_all := lw_g (lw_at lw_m7 37 rfl) rfl
theorem q1553 : (Jvm.Cond.methodLink "InnRoad$History" (24 : Nat) ({ cls := "java/util/ArrayDeque", name := "removeFirst", desc := "()Ljava/lang/Object;" } : Jvm.MethodName)) ∈ lw_all := lw_g (lw_at lw_m7 44 rfl) rfl
theorem q1567 : (Jvm.Cond.classLink "InnRoad$History" (28 : Nat) "InnRoad$Copyable") ∈ lw_all := lw_g (lw_at lw_m7 58 rfl) rfl
theorem q1568 : (Jvm.Cond.methodLink "InnRoad$History" (30 : Nat) ({ cls := "java/util/ArrayDeque", name := "addLast", desc := "(Ljava/lang/Object;)V" } : Jvm.MethodName)) ∈ lw_all := lw_g (lw_at lw_m7 59 rfl) rfl
theorem q1616 : (Jvm.Cond.instanceMethod ({ cls := "InnRoad$History", name := "size", desc := "()I" } : Jvm.MethodName)) ∈ lw_all := lw_g (lw_at lw_m7 107 rfl) rfl
theorem q1617 : (Jvm.Cond.selects "InnRoad$History" ({ cls := "InnRoad$History", name := "size", desc := "()I" } : Jvm.MethodName) ({ cls := "InnRoad$History", name := "size", desc := "()I" } : Jvm.MethodName)) ∈ lw_all := lw_g (lw_at lw_m7 108 rfl) rfl
theorem q1618 : (Jvm.Cond.code ({ cls := "InnRoad$History", name := "size", desc := "()I" } : Jvm.MethodName) prog_3_method_4_code (1 : Nat) (Option.some Jvm.ClassFile.FieldType.int)) ∈ lw_all := lw_g (lw_at lw_m7 109 rfl) rfl
theorem q2085 : (Jvm.Cond.instanceMethod ({ cls := "InnRoad$History", name := "takeLatest", desc := "()LInnRoad$Copyable;" } : Jvm.MethodName)) ∈ lw_all := lw_g (lw_at lw_m9 96 rfl) rfl
theorem q2086 : (Jvm.Cond.selects "InnRoad$History" ({ cls := "InnRoad$History", name := "takeLatest", desc := "()LInnRoad$Copyable;" } : Jvm.MethodName) ({ cls := "InnRoad$History", name := "takeLatest", desc := "()LInnRoad$Copyable;" } : Jvm.MethodName)) ∈ lw_all := lw_g (lw_at lw_m9 97 rfl) rfl
theorem q2087 : (Jvm.Cond.code ({ cls := "InnRoad$History", name := "takeLatest", desc := "()LInnRoad$Copyable;" } : Jvm.MethodName) prog_3_method_3_code (1 : Nat) (Option.some (Jvm.ClassFile.FieldType.object "InnRoad$Copyable"))) ∈ lw_all := lw_g (lw_at lw_m9 98 rfl) rfl
theorem q2088 : (Jvm.Cond.methodLink "InnRoad$History" (34 : Nat) ({ cls := "java/util/ArrayDeque", name := "removeLast", desc := "()Ljava/lang/Object;" } : Jvm.MethodName)) ∈ lw_all := lw_g (lw_at lw_m9 99 rfl) rfl
theorem q2909 : (Jvm.Cond.castable "InnRoad$History" "java/lang/Object") ∈ lw_tbl := lw_at lw_m12 200 rfl
theorem in_X4 : ∀ w ∈ wsX40, w ∈ lw_all := lw_in wsX40 [225, 227] (by decide +kernel) (by decide +kernel)
/-! InnRoad$Inn -/
set_option maxRecDepth 100000
def RX5 : String := "InnRoad$Inn"
def TX5 : u_T := fun k => match k with
  | 0 => ("InnRoad$Inn", "mile", "I", true)
  | 1 => ("InnRoad$Inn", "isOpen", "Z", true)
  | _ => ("InnRoad$Inn", "letters", "I", true)
def tyX5 : Nat → FieldType := fun k => match k with
  | 0 => .int
  | 1 => .boolean
  | _ => .int
abbrev wsX50 : List Cond := u_ws RX5 TX5 3
theorem nmX5 : ∀ a, a < 3 → ∀ b, b < 3 → a ≠ b → (TX5 a).2.1 ≠ (TX5 b).2.1 := by decide +kernel
theorem tyX5_ok : ∀ k, k < 3 → parseFieldDescriptor (TX5 k).2.2.1 = some (tyX5 k) := by decide +kernel
abbrev cX5_init : ByteArray := prog_4_method_1_code
def yX5_init : MethodName := ⟨RX5, "<init>", "(IZI)V"⟩
def dkwX5_init_0 : List UInt8 := [42, 183, 0, 1, 42, 27, 181, 0, 7, 42, 28, 181, 0, 13, 42, 29, 181, 0, 17, 177]
abbrev dktX5_init_0 : List UInt8 := dkwX5_init_0 ++ []
theorem dksX5_init_0 : cX5_init.data.toList.drop 0 = dktX5_init_0 := by decide +kernel
theorem dX5_init_0 : decode cX5_init 0 = .ok (.aload_n 0, 1) := dk_42 (dk_at dksX5_init_0 0 rfl rfl)
theorem dX5_init_1 : decode cX5_init 1 = .ok (.invokespecial 1, 3) := dk_183 0 1 (dk_at dksX5_init_0 1 rfl rfl)
theorem dX5_init_4 : decode cX5_init 4 = .ok (.aload_n 0, 1) := dk_42 (dk_at dksX5_init_0 4 rfl rfl)
theorem dX5_init_5 : decode cX5_init 5 = .ok (.iload_n 1, 1) := dk_27 (dk_at dksX5_init_0 5 rfl rfl)
theorem dX5_init_6 : decode cX5_init 6 = .ok (.putfield 7, 3) := dk_181 0 7 (dk_at dksX5_init_0 6 rfl rfl)
theorem dX5_init_9 : decode cX5_init 9 = .ok (.aload_n 0, 1) := dk_42 (dk_at dksX5_init_0 9 rfl rfl)
theorem dX5_init_10 : decode cX5_init 10 = .ok (.iload_n 2, 1) := dk_28 (dk_at dksX5_init_0 10 rfl rfl)
theorem dX5_init_11 : decode cX5_init 11 = .ok (.putfield 13, 3) := dk_181 0 13 (dk_at dksX5_init_0 11 rfl rfl)
theorem dX5_init_14 : decode cX5_init 14 = .ok (.aload_n 0, 1) := dk_42 (dk_at dksX5_init_0 14 rfl rfl)
theorem dX5_init_15 : decode cX5_init 15 = .ok (.iload_n 3, 1) := dk_29 (dk_at dksX5_init_0 15 rfl rfl)
theorem dX5_init_16 : decode cX5_init 16 = .ok (.putfield 17, 3) := dk_181 0 17 (dk_at dksX5_init_0 16 rfl rfl)
theorem dX5_init_19 : decode cX5_init 19 = .ok (.return_, 1) := dk_177 (dk_at dksX5_init_0 19 rfl rfl)
abbrev cX5_opened : ByteArray := prog_4_method_2_code
def yX5_opened : MethodName := ⟨RX5, "opened", "(Z)LInnRoad$Inn;"⟩
def dkwX5_opened_0 : List UInt8 := [187, 0, 8, 89, 42, 180, 0, 7, 27, 42, 180, 0, 17, 183, 0, 20, 176]
abbrev dktX5_opened_0 : List UInt8 := dkwX5_opened_0 ++ []
theorem dksX5_opened_0 : cX5_opened.data.toList.drop 0 = dktX5_opened_0 := by decide +kernel
theorem dX5_opened_0 : decode cX5_opened 0 = .ok (.new 8, 3) := dk_187 0 8 (dk_at dksX5_opened_0 0 rfl rfl)
theorem dX5_opened_3 : decode cX5_opened 3 = .ok (.dup, 1) := dk_89 (dk_at dksX5_opened_0 3 rfl rfl)
theorem dX5_opened_4 : decode cX5_opened 4 = .ok (.aload_n 0, 1) := dk_42 (dk_at dksX5_opened_0 4 rfl rfl)
theorem dX5_opened_5 : decode cX5_opened 5 = .ok (.getfield 7, 3) := dk_180 0 7 (dk_at dksX5_opened_0 5 rfl rfl)
theorem dX5_opened_8 : decode cX5_opened 8 = .ok (.iload_n 1, 1) := dk_27 (dk_at dksX5_opened_0 8 rfl rfl)
theorem dX5_opened_9 : decode cX5_opened 9 = .ok (.aload_n 0, 1) := dk_42 (dk_at dksX5_opened_0 9 rfl rfl)
theorem dX5_opened_10 : decode cX5_opened 10 = .ok (.getfield 17, 3) := dk_180 0 17 (dk_at dksX5_opened_0 10 rfl rfl)
theorem dX5_opened_13 : decode cX5_opened 13 = .ok (.invokespecial 20, 3) := dk_183 0 20 (dk_at dksX5_opened_0 13 rfl rfl)
theorem dX5_opened_16 : decode cX5_opened 16 = .ok (.areturn, 1) := dk_176 (dk_at dksX5_opened_0 16 rfl rfl)
abbrev cX5_withLetters : ByteArray := prog_4_method_3_code
def yX5_withLetters : MethodName := ⟨RX5, "withLetters", "(I)LInnRoad$Inn;"⟩
def dkwX5_withLetters_0 : List UInt8 := [187, 0, 8, 89, 42, 180, 0, 7, 42, 180, 0, 13, 27, 183, 0, 20, 176]
abbrev dktX5_withLetters_0 : List UInt8 := dkwX5_withLetters_0 ++ []
theorem dksX5_withLetters_0 : cX5_withLetters.data.toList.drop 0 = dktX5_withLetters_0 := by decide +kernel
theorem dX5_withLetters_0 : decode cX5_withLetters 0 = .ok (.new 8, 3) := dk_187 0 8 (dk_at dksX5_withLetters_0 0 rfl rfl)
theorem dX5_withLetters_3 : decode cX5_withLetters 3 = .ok (.dup, 1) := dk_89 (dk_at dksX5_withLetters_0 3 rfl rfl)
theorem dX5_withLetters_4 : decode cX5_withLetters 4 = .ok (.aload_n 0, 1) := dk_42 (dk_at dksX5_withLetters_0 4 rfl rfl)
theorem dX5_withLetters_5 : decode cX5_withLetters 5 = .ok (.getfield 7, 3) := dk_180 0 7 (dk_at dksX5_withLetters_0 5 rfl rfl)
theorem dX5_withLetters_8 : decode cX5_withLetters 8 = .ok (.aload_n 0, 1) := dk_42 (dk_at dksX5_withLetters_0 8 rfl rfl)
theorem dX5_withLetters_9 : decode cX5_withLetters 9 = .ok (.getfield 13, 3) := dk_180 0 13 (dk_at dksX5_withLetters_0 9 rfl rfl)
theorem dX5_withLetters_12 : decode cX5_withLetters 12 = .ok (.iload_n 1, 1) := dk_27 (dk_at dksX5_withLetters_0 12 rfl rfl)
theorem dX5_withLetters_13 : decode cX5_withLetters 13 = .ok (.invokespecial 20, 3) := dk_183 0 20 (dk_at dksX5_withLetters_0 13 rfl rfl)
theorem dX5_withLetters_16 : decode cX5_withLetters 16 = .ok (.areturn, 1) := dk_176 (dk_at dksX5_withLetters_0 16 rfl rfl)
theorem q76 : (Jvm.Cond.initialized "InnRoad$Inn") ∈ lw_all := lw_g (lw_at lw_m1 7 rfl) rfl
theorem q232 : (Jvm.Cond.instantiable "InnRoad$Inn" (3 : Nat)) ∈ lw_all := lw_g (lw_at lw_m1 163 rfl) rfl
theorem q234 : (Jvm.Cond.instanceMethod ({ cls := "InnRoad$Inn", name := "<init>", desc := "(IZI)V" } : Jvm.MethodName)) ∈ lw_all := lw_g (lw_at lw_m1 165 rfl) rfl
theorem q235 : (Jvm.Cond.code ({ cls := "InnRoad$Inn", name := "<init>", desc := "(IZI)V" } : Jvm.MethodName) prog_4_method_1_code (4 : Nat) (Option.none : Option Jvm.ClassFile.FieldType)) ∈ lw_all := lw_g (lw_at lw_m1 166 rfl) rfl
theorem q236 : (Jvm.Cond.methodLink "InnRoad$Inn" (1 : Nat) ({ cls := "java/lang/Object", name := "<init>", desc := "()V" } : Jvm.MethodName)) ∈ lw_all := lw_g (lw_at lw_m1 167 rfl) rfl
theorem q237 : (Jvm.Cond.fieldLink "InnRoad$Inn" (7 : Nat) "InnRoad$Inn" "mile" "I") ∈ lw_all := lw_g (lw_at lw_m1 168 rfl) rfl
theorem q240 : (Jvm.Cond.fieldLink "InnRoad$Inn" (13 : Nat) "InnRoad$Inn" "isOpen" "Z") ∈ lw_all := lw_g (lw_at lw_m1 171 rfl) rfl
theorem q243 : (Jvm.Cond.fieldLink "InnRoad$Inn" (17 : Nat) "InnRoad$Inn" "letters" "I") ∈ lw_all := lw_g (lw_at lw_m1 174 rfl) rfl
theorem q245 : (Jvm.Cond.laysFinal "InnRoad$Inn" "InnRoad$Inn" "mile" "I") ∈ lw_all := lw_g (lw_at lw_m1 176 rfl) rfl
theorem q246 : (Jvm.Cond.soleField "InnRoad$Inn" "mile") ∈ lw_all := lw_g (lw_at lw_m1 177 rfl) rfl
theorem q247 : (Jvm.Cond.laysFinal "InnRoad$Inn" "InnRoad$Inn" "isOpen" "Z") ∈ lw_all := lw_g (lw_at lw_m1 178 rfl) rfl
theorem q248 : (Jvm.Cond.soleField "InnRoad$Inn" "isOpen") ∈ lw_all := lw_g (lw_at lw_m1 179 rfl) rfl
theorem q249 : (Jvm.Cond.laysFinal "InnRoad$Inn" "InnRoad$Inn" "letters" "I") ∈ lw_all := lw_g (lw_at lw_m1 180 rfl) rfl
theorem q250 : (Jvm.Cond.soleField "InnRoad$Inn" "letters") ∈ lw_all := lw_g (lw_at lw_m1 181 rfl) rfl
theorem q251 : (Jvm.Cond.superclass "InnRoad$Inn" "java/lang/Object") ∈ lw_all := lw_g (lw_at lw_m1 182 rfl) rfl
theorem q711 : (Jvm.Cond.selects "InnRoad$Inn" ({ cls := "java/lang/Object", name := "getClass", desc := "()Ljava/lang/Class;" } : Jvm.MethodName) ({ cls := "java/lang/Object", name := "getClass", desc := "()Ljava/lang/Class;" } : Jvm.MethodName)) ∈ lw_all := lw_g (lw_at lw_m3 162 rfl) rfl
theorem q983 : (Jvm.Cond.selects "InnRoad$Inn" ({ cls := "java/lang/Object", name := "hashCode", desc := "()I" } : Jvm.MethodName) ({ cls := "java/lang/Object", name := "hashCode", desc := "()I" } : Jvm.MethodName)) ∈ lw_all := lw_g (lw_at lw_m4 194 rfl) rfl
theorem q1076 : (Jvm.Cond.selects "InnRoad$Inn" ({ cls := "java/lang/Object", name := "equals", desc := "(Ljava/lang/Object;)Z" } : Jvm.MethodName) ({ cls := "java/lang/Object", name := "equals", desc := "(Ljava/lang/Object;)Z" } : Jvm.MethodName)) ∈ lw_all := lw_g (lw_at lw_m5 47 rfl) rfl
theorem q1602 : (Jvm.Cond.instanceMethod ({ cls := "InnRoad$Inn", name := "opened", desc := "(Z)LInnRoad$Inn;" } : Jvm.MethodName)) ∈ lw_all := lw_g (lw_at lw_m7 93 rfl) rfl
theorem q1603 : (Jvm.Cond.selects "InnRoad$Inn" ({ cls := "InnRoad$Inn", name := "opened", desc := "(Z)LInnRoad$Inn;" } : Jvm.MethodName) ({ cls := "InnRoad$Inn", name := "opened", desc := "(Z)LInnRoad$Inn;" } : Jvm.MethodName)) ∈ lw_all := lw_g (lw_at lw_m7 94 rfl) rfl
theorem q1604 : (Jvm.Cond.code ({ cls := "InnRoad$Inn", name := "opened", desc := "(Z)LInnRoad$Inn;" } : Jvm.MethodName) prog_4_method_2_code (2 : Nat) (Option.some (Jvm.ClassFile.FieldType.object "InnRoad$Inn"))) ∈ lw_all := lw_g (lw_at lw_m7 95 rfl) rfl
theorem q1605 : (Jvm.Cond.classLink "InnRoad$Inn" (8 : Nat) "InnRoad$Inn") ∈ lw_all := lw_g (lw_at lw_m7 96 rfl) rfl
theorem q1606 : (Jvm.Cond.methodLink "InnRoad$Inn" (20 : Nat) ({ cls := "InnRoad$Inn", name := "<init>", desc := "(IZI)V" } : Jvm.MethodName)) ∈ lw_all := lw_g (lw_at lw_m7 97 rfl) rfl
theorem q2019 : (Jvm.Cond.instanceMethod ({ cls := "InnRoad$Inn", name := "withLetters", desc := "(I)LInnRoad$Inn;" } : Jvm.MethodName)) ∈ lw_all := lw_g (lw_at lw_m9 30 rfl) rfl
theorem q2020 : (Jvm.Cond.selects "InnRoad$Inn" ({ cls := "InnRoad$Inn", name := "withLetters", desc := "(I)LInnRoad$Inn;" } : Jvm.MethodName) ({ cls := "InnRoad$Inn", name := "withLetters", desc := "(I)LInnRoad$Inn;" } : Jvm.MethodName)) ∈ lw_all := lw_g (lw_at lw_m9 31 rfl) rfl
theorem q2021 : (Jvm.Cond.code ({ cls := "InnRoad$Inn", name := "withLetters", desc := "(I)LInnRoad$Inn;" } : Jvm.MethodName) prog_4_method_3_code (2 : Nat) (Option.some (Jvm.ClassFile.FieldType.object "InnRoad$Inn"))) ∈ lw_all := lw_g (lw_at lw_m9 32 rfl) rfl
theorem q2904 : (Jvm.Cond.castable "InnRoad$Inn" "java/lang/Object") ∈ lw_tbl := lw_at lw_m12 195 rfl
theorem in_X5 : ∀ w ∈ wsX50, w ∈ lw_all := lw_in wsX50 [245, 247, 249] (by decide +kernel) (by decide +kernel)
/-! InnRoad$TokenException -/
set_option maxRecDepth 100000
def RX8 : String := "InnRoad$TokenException"
def TX8 : u_T := fun k => match k with
  | 0 => ("java/lang/Throwable", "cause", "Ljava/lang/Throwable;", false)
  | 1 => ("java/lang/Throwable", "stackTrace", "[Ljava/lang/StackTraceElement;", false)
  | 2 => ("java/lang/Throwable", "suppressedExceptions", "Ljava/util/List;", false)
  | 3 => ("java/lang/Throwable", "detailMessage", "Ljava/lang/String;", false)
  | 4 => ("java/lang/Throwable", "backtrace", "Ljava/lang/Object;", false)
  | 5 => ("java/lang/Throwable", "depth", "I", false)
  | _ => ("InnRoad$TokenException", "position", "I", true)
def tyX8 : Nat → FieldType := fun k => match k with
  | 0 => .object "java/lang/Throwable"
  | 1 => .array (.object "java/lang/StackTraceElement")
  | 2 => .object "java/util/List"
  | 3 => .object "java/lang/String"
  | 4 => .object "java/lang/Object"
  | 5 => .int
  | _ => .int
abbrev wsX80 : List Cond := u_ws RX8 TX8 7
theorem nmX8 : ∀ a, a < 7 → ∀ b, b < 7 → a ≠ b → (TX8 a).2.1 ≠ (TX8 b).2.1 := by decide +kernel
theorem tyX8_ok : ∀ k, k < 7 → parseFieldDescriptor (TX8 k).2.2.1 = some (tyX8 k) := by decide +kernel
abbrev cX8_init : ByteArray := prog_9_method_1_code
def yX8_init : MethodName := ⟨RX8, "<init>", "(I)V"⟩
def dkwX8_init_0 : List UInt8 := [42, 18, 1, 183, 0, 3, 42, 27, 181, 0, 9, 177]
abbrev dktX8_init_0 : List UInt8 := dkwX8_init_0 ++ []
theorem dksX8_init_0 : cX8_init.data.toList.drop 0 = dktX8_init_0 := by decide +kernel
theorem dX8_init_0 : decode cX8_init 0 = .ok (.aload_n 0, 1) := dk_42 (dk_at dksX8_init_0 0 rfl rfl)
theorem dX8_init_1 : decode cX8_init 1 = .ok (.ldc 1, 2) := dk_18 1 (dk_at dksX8_init_0 1 rfl rfl)
theorem dX8_init_3 : decode cX8_init 3 = .ok (.invokespecial 3, 3) := dk_183 0 3 (dk_at dksX8_init_0 3 rfl rfl)
theorem dX8_init_6 : decode cX8_init 6 = .ok (.aload_n 0, 1) := dk_42 (dk_at dksX8_init_0 6 rfl rfl)
theorem dX8_init_7 : decode cX8_init 7 = .ok (.iload_n 1, 1) := dk_27 (dk_at dksX8_init_0 7 rfl rfl)
theorem dX8_init_8 : decode cX8_init 8 = .ok (.putfield 9, 3) := dk_181 0 9 (dk_at dksX8_init_0 8 rfl rfl)
theorem dX8_init_11 : decode cX8_init 11 = .ok (.return_, 1) := dk_177 (dk_at dksX8_init_0 11 rfl rfl)
theorem q105 : (Jvm.Cond.initialized "InnRoad$TokenException") ∈ lw_all := lw_g (lw_at lw_m1 36 rfl) rfl
theorem q394 : (Jvm.Cond.selects "InnRoad$TokenException" ({ cls := "java/lang/Throwable", name := "fillInStackTrace", desc := "()Ljava/lang/Throwable;" } : Jvm.MethodName) ({ cls := "java/lang/Throwable", name := "fillInStackTrace", desc := "()Ljava/lang/Throwable;" } : Jvm.MethodName)) ∈ lw_all := lw_g (lw_at lw_m2 85 rfl) rfl
theorem q716 : (Jvm.Cond.selects "InnRoad$TokenException" ({ cls := "java/lang/Object", name := "getClass", desc := "()Ljava/lang/Class;" } : Jvm.MethodName) ({ cls := "java/lang/Object", name := "getClass", desc := "()Ljava/lang/Class;" } : Jvm.MethodName)) ∈ lw_all := lw_g (lw_at lw_m3 167 rfl) rfl
theorem q921 : (Jvm.Cond.instantiable "InnRoad$TokenException" (7 : Nat)) ∈ lw_all := lw_g (lw_at lw_m4 132 rfl) rfl
theorem q922 : (Jvm.Cond.castable "InnRoad$TokenException" "InnRoad$TokenException") ∈ lw_tbl := lw_at lw_m4 133 rfl
theorem q923 : (Jvm.Cond.selects "InnRoad$TokenException" ({ cls := "java/lang/Throwable", name := "fillInStackTrace", desc := "(I)Ljava/lang/Throwable;" } : Jvm.MethodName) ({ cls := "java/lang/Throwable", name := "fillInStackTrace", desc := "(I)Ljava/lang/Throwable;" } : Jvm.MethodName)) ∈ lw_all := lw_g (lw_at lw_m4 134 rfl) rfl
theorem q924 : (Jvm.Cond.lays "InnRoad$TokenException" "java/lang/Throwable" "cause" "Ljava/lang/Throwable;") ∈ lw_all := lw_g (lw_at lw_m4 135 rfl) rfl
theorem q925 : (Jvm.Cond.lays "InnRoad$TokenException" "java/lang/Throwable" "stackTrace" "[Ljava/lang/StackTraceElement;") ∈ lw_all := lw_g (lw_at lw_m4 136 rfl) rfl
theorem q926 : (Jvm.Cond.lays "InnRoad$TokenException" "java/lang/Throwable" "suppressedExceptions" "Ljava/util/List;") ∈ lw_all := lw_g (lw_at lw_m4 137 rfl) rfl
theorem q927 : (Jvm.Cond.lays "InnRoad$TokenException" "java/lang/Throwable" "detailMessage" "Ljava/lang/String;") ∈ lw_all := lw_g (lw_at lw_m4 138 rfl) rfl
theorem q928 : (Jvm.Cond.lays "InnRoad$TokenException" "java/lang/Throwable" "backtrace" "Ljava/lang/Object;") ∈ lw_all := lw_g (lw_at lw_m4 139 rfl) rfl
theorem q930 : (Jvm.Cond.instanceMethod ({ cls := "InnRoad$TokenException", name := "<init>", desc := "(I)V" } : Jvm.MethodName)) ∈ lw_all := lw_g (lw_at lw_m4 141 rfl) rfl
theorem q931 : (Jvm.Cond.code ({ cls := "InnRoad$TokenException", name := "<init>", desc := "(I)V" } : Jvm.MethodName) prog_9_method_1_code (2 : Nat) (Option.none : Option Jvm.ClassFile.FieldType)) ∈ lw_all := lw_g (lw_at lw_m4 142 rfl) rfl
theorem q932 : (Jvm.Cond.stringRef "InnRoad$TokenException" (1 : Nat) "token") ∈ lw_tbl := lw_at lw_m4 143 rfl
theorem q933 : (Jvm.Cond.methodLink "InnRoad$TokenException" (3 : Nat) ({ cls := "java/lang/Exception", name := "<init>", desc := "(Ljava/lang/String;)V" } : Jvm.MethodName)) ∈ lw_all := lw_g (lw_at lw_m4 144 rfl) rfl
theorem q934 : (Jvm.Cond.fieldLink "InnRoad$TokenException" (9 : Nat) "InnRoad$TokenException" "position" "I") ∈ lw_all := lw_g (lw_at lw_m4 145 rfl) rfl
theorem q936 : (Jvm.Cond.laysFinal "InnRoad$TokenException" "InnRoad$TokenException" "position" "I") ∈ lw_all := lw_g (lw_at lw_m4 147 rfl) rfl
theorem q937 : (Jvm.Cond.soleField "InnRoad$TokenException" "position") ∈ lw_all := lw_g (lw_at lw_m4 148 rfl) rfl
theorem q938 : (Jvm.Cond.lays "InnRoad$TokenException" "java/lang/Throwable" "depth" "I") ∈ lw_all := lw_g (lw_at lw_m4 149 rfl) rfl
theorem q939 : (Jvm.Cond.superclass "InnRoad$TokenException" "java/lang/Exception") ∈ lw_all := lw_g (lw_at lw_m4 150 rfl) rfl
theorem q988 : (Jvm.Cond.selects "InnRoad$TokenException" ({ cls := "java/lang/Object", name := "hashCode", desc := "()I" } : Jvm.MethodName) ({ cls := "java/lang/Object", name := "hashCode", desc := "()I" } : Jvm.MethodName)) ∈ lw_all := lw_g (lw_at lw_m4 199 rfl) rfl
theorem q1081 : (Jvm.Cond.selects "InnRoad$TokenException" ({ cls := "java/lang/Object", name := "equals", desc := "(Ljava/lang/Object;)Z" } : Jvm.MethodName) ({ cls := "java/lang/Object", name := "equals", desc := "(Ljava/lang/Object;)Z" } : Jvm.MethodName)) ∈ lw_all := lw_g (lw_at lw_m5 52 rfl) rfl
theorem q2922 : (Jvm.Cond.castable "InnRoad$TokenException" "java/lang/Object") ∈ lw_tbl := lw_at lw_m12 213 rfl
theorem in_X8 : ∀ w ∈ wsX80, w ∈ lw_all := lw_in wsX80 [924, 925, 926, 927, 928, 938, 936] (by decide +kernel) (by decide +kernel)
/-! InnRoad$Ride -/
set_option maxRecDepth 100000
def RX9 : String := "InnRoad$Ride"
def TX9 : u_T := fun k => match k with
  | 0 => ("InnRoad$Ride", "hasArrived", "Z", true)
  | 1 => ("InnRoad$Ride", "isStuck", "Z", true)
  | 2 => ("InnRoad$Ride", "end", "I", true)
  | 3 => ("InnRoad$Ride", "stages", "I", true)
  | 4 => ("InnRoad$Ride", "skips", "I", true)
  | _ => ("InnRoad$Ride", "length", "I", true)
def tyX9 : Nat → FieldType := fun k => match k with
  | 0 => .boolean
  | 1 => .boolean
  | 2 => .int
  | 3 => .int
  | 4 => .int
  | _ => .int
abbrev wsX90 : List Cond := u_ws RX9 TX9 6
theorem nmX9 : ∀ a, a < 6 → ∀ b, b < 6 → a ≠ b → (TX9 a).2.1 ≠ (TX9 b).2.1 := by decide +kernel
theorem tyX9_ok : ∀ k, k < 6 → parseFieldDescriptor (TX9 k).2.2.1 = some (tyX9 k) := by decide +kernel
abbrev cX9_init : ByteArray := prog_7_method_1_code
def yX9_init : MethodName := ⟨RX9, "<init>", "(LInnRoad$Road;III)V"⟩
def dkwX9_init_7 : List UInt8 := [181, 0, 37, 42, 21, 6, 181, 0, 41, 42, 21, 8, 181, 0, 44, 42, 21, 7, 181, 0, 47, 177]
abbrev dktX9_init_7 : List UInt8 := dkwX9_init_7 ++ []
def dkwX9_init_6 : List UInt8 := [42, 180, 0, 28, 154, 0, 13, 21, 9, 2, 160, 0, 7, 4, 167, 0, 4, 3, 181, 0, 34, 42, 21, 5]
abbrev dktX9_init_6 : List UInt8 := dkwX9_init_6 ++ dktX9_init_7
def dkwX9_init_5 : List UInt8 := [182, 0, 9, 54, 9, 167, 255, 172, 42, 21, 5, 29, 160, 0, 7, 4, 167, 0, 4, 3, 181, 0, 28, 42]
abbrev dktX9_init_5 : List UInt8 := dkwX9_init_5 ++ dktX9_init_6
def dkwX9_init_4 : List UInt8 := [54, 8, 132, 6, 1, 21, 9, 54, 5, 21, 5, 29, 160, 0, 7, 2, 167, 0, 11, 43, 21, 5, 21, 4]
abbrev dktX9_init_4 : List UInt8 := dkwX9_init_4 ++ dktX9_init_5
def dkwX9_init_3 : List UInt8 := [21, 8, 21, 9, 43, 180, 0, 18, 180, 0, 22, 21, 5, 46, 160, 0, 7, 3, 167, 0, 4, 4, 96]
abbrev dktX9_init_3 : List UInt8 := dkwX9_init_3 ++ dktX9_init_4
def dkwX9_init_2 : List UInt8 := [159, 0, 78, 21, 6, 16, 24, 162, 0, 71, 21, 7, 43, 21, 5, 21, 9, 182, 0, 15, 96, 54, 7]
abbrev dktX9_init_2 : List UInt8 := dkwX9_init_2 ++ dktX9_init_3
def dkwX9_init_1 : List UInt8 := [167, 0, 11, 43, 21, 5, 21, 4, 182, 0, 9, 54, 9, 21, 5, 29, 159, 0, 84, 21, 9, 2]
abbrev dktX9_init_1 : List UInt8 := dkwX9_init_1 ++ dktX9_init_2
def dkwX9_init_0 : List UInt8 := [42, 183, 0, 3, 28, 54, 5, 3, 54, 6, 3, 54, 7, 3, 54, 8, 21, 5, 29, 160, 0, 7, 2]
abbrev dktX9_init_0 : List UInt8 := dkwX9_init_0 ++ dktX9_init_1
theorem dksX9_init_0 : cX9_init.data.toList.drop 0 = dktX9_init_0 := by decide +kernel
theorem dksX9_init_1 : cX9_init.data.toList.drop 23 = dktX9_init_1 := dk_seg dksX9_init_0 23 rfl rfl
theorem dksX9_init_2 : cX9_init.data.toList.drop 45 = dktX9_init_2 := dk_seg dksX9_init_1 22 rfl rfl
theorem dksX9_init_3 : cX9_init.data.toList.drop 68 = dktX9_init_3 := dk_seg dksX9_init_2 23 rfl rfl
theorem dksX9_init_4 : cX9_init.data.toList.drop 91 = dktX9_init_4 := dk_seg dksX9_init_3 23 rfl rfl
theorem dksX9_init_5 : cX9_init.data.toList.drop 115 = dktX9_init_5 := dk_seg dksX9_init_4 24 rfl rfl
theorem dksX9_init_6 : cX9_init.data.toList.drop 139 = dktX9_init_6 := dk_seg dksX9_init_5 24 rfl rfl
theorem dksX9_init_7 : cX9_init.data.toList.drop 163 = dktX9_init_7 := dk_seg dksX9_init_6 24 rfl rfl
theorem dX9_init_0 : decode cX9_init 0 = .ok (.aload_n 0, 1) := dk_42 (dk_at dksX9_init_0 0 rfl rfl)
theorem dX9_init_1 : decode cX9_init 1 = .ok (.invokespecial 3, 3) := dk_183 0 3 (dk_at dksX9_init_0 1 rfl rfl)
theorem dX9_init_4 : decode cX9_init 4 = .ok (.iload_n 2, 1) := dk_28 (dk_at dksX9_init_0 4 rfl rfl)
theorem dX9_init_5 : decode cX9_init 5 = .ok (.istore 5, 2) := dk_54 5 (dk_at dksX9_init_0 5 rfl rfl)
theorem dX9_init_7 : decode cX9_init 7 = .ok (.iconst 0, 1) := dk_3 (dk_at dksX9_init_0 7 rfl rfl)
theorem dX9_init_8 : decode cX9_init 8 = .ok (.istore 6, 2) := dk_54 6 (dk_at dksX9_init_0 8 rfl rfl)
theorem dX9_init_10 : decode cX9_init 10 = .ok (.iconst 0, 1) := dk_3 (dk_at dksX9_init_0 10 rfl rfl)
theorem dX9_init_11 : decode cX9_init 11 = .ok (.istore 7, 2) := dk_54 7 (dk_at dksX9_init_0 11 rfl rfl)
theorem dX9_init_13 : decode cX9_init 13 = .ok (.iconst 0, 1) := dk_3 (dk_at dksX9_init_0 13 rfl rfl)
theorem dX9_init_14 : decode cX9_init 14 = .ok (.istore 8, 2) := dk_54 8 (dk_at dksX9_init_0 14 rfl rfl)
theorem dX9_init_16 : decode cX9_init 16 = .ok (.iload 5, 2) := dk_21 5 (dk_at dksX9_init_0 16 rfl rfl)
theorem dX9_init_18 : decode cX9_init 18 = .ok (.iload_n 3, 1) := dk_29 (dk_at dksX9_init_0 18 rfl rfl)
theorem dX9_init_19 : decode cX9_init 19 = .ok (.if_icmp .ne 7, 3) := dk_160 0 7 (dk_at dksX9_init_0 19 rfl rfl)
theorem dX9_init_22 : decode cX9_init 22 = .ok (.iconst (-1), 1) := dk_2 (dk_at dksX9_init_0 22 rfl rfl)
theorem dX9_init_23 : decode cX9_init 23 = .ok (.goto 11, 3) := dk_167 0 11 (dk_at dksX9_init_1 0 rfl rfl)
theorem dX9_init_26 : decode cX9_init 26 = .ok (.aload_n 1, 1) := dk_43 (dk_at dksX9_init_1 3 rfl rfl)
theorem dX9_init_27 : decode cX9_init 27 = .ok (.iload 5, 2) := dk_21 5 (dk_at dksX9_init_1 4 rfl rfl)
theorem dX9_init_29 : decode cX9_init 29 = .ok (.iload 4, 2) := dk_21 4 (dk_at dksX9_init_1 6 rfl rfl)
theorem dX9_init_31 : decode cX9_init 31 = .ok (.invokevirtual 9, 3) := dk_182 0 9 (dk_at dksX9_init_1 8 rfl rfl)
theorem dX9_init_34 : decode cX9_init 34 = .ok (.istore 9, 2) := dk_54 9 (dk_at dksX9_init_1 11 rfl rfl)
theorem dX9_init_36 : decode cX9_init 36 = .ok (.iload 5, 2) := dk_21 5 (dk_at dksX9_init_1 13 rfl rfl)
theorem dX9_init_38 : decode cX9_init 38 = .ok (.iload_n 3, 1) := dk_29 (dk_at dksX9_init_1 15 rfl rfl)
theorem dX9_init_39 : decode cX9_init 39 = .ok (.if_icmp .eq 84, 3) := dk_159 0 84 (dk_at dksX9_init_1 16 rfl rfl)
theorem dX9_init_42 : decode cX9_init 42 = .ok (.iload 9, 2) := dk_21 9 (dk_at dksX9_init_1 19 rfl rfl)
theorem dX9_init_44 : decode cX9_init 44 = .ok (.iconst (-1), 1) := dk_2 (dk_at dksX9_init_1 21 rfl rfl)
theorem dX9_init_45 : decode cX9_init 45 = .ok (.if_icmp .eq 78, 3) := dk_159 0 78 (dk_at dksX9_init_2 0 rfl rfl)
theorem dX9_init_48 : decode cX9_init 48 = .ok (.iload 6, 2) := dk_21 6 (dk_at dksX9_init_2 3 rfl rfl)
theorem dX9_init_50 : decode cX9_init 50 = .ok (.bipush 24, 2) := dk_16 24 (dk_at dksX9_init_2 5 rfl rfl)
theorem dX9_init_52 : decode cX9_init 52 = .ok (.if_icmp .ge 71, 3) := dk_162 0 71 (dk_at dksX9_init_2 7 rfl rfl)
theorem dX9_init_55 : decode cX9_init 55 = .ok (.iload 7, 2) := dk_21 7 (dk_at dksX9_init_2 10 rfl rfl)
theorem dX9_init_57 : decode cX9_init 57 = .ok (.aload_n 1, 1) := dk_43 (dk_at dksX9_init_2 12 rfl rfl)
theorem dX9_init_58 : decode cX9_init 58 = .ok (.iload 5, 2) := dk_21 5 (dk_at dksX9_init_2 13 rfl rfl)
theorem dX9_init_60 : decode cX9_init 60 = .ok (.iload 9, 2) := dk_21 9 (dk_at dksX9_init_2 15 rfl rfl)
theorem dX9_init_62 : decode cX9_init 62 = .ok (.invokevirtual 15, 3) := dk_182 0 15 (dk_at dksX9_init_2 17 rfl rfl)
theorem dX9_init_65 : decode cX9_init 65 = .ok (.iadd, 1) := dk_96 (dk_at dksX9_init_2 20 rfl rfl)
theorem dX9_init_66 : decode cX9_init 66 = .ok (.istore 7, 2) := dk_54 7 (dk_at dksX9_init_2 21 rfl rfl)
theorem dX9_init_68 : decode cX9_init 68 = .ok (.iload 8, 2) := dk_21 8 (dk_at dksX9_init_3 0 rfl rfl)
theorem dX9_init_70 : decode cX9_init 70 = .ok (.iload 9, 2) := dk_21 9 (dk_at dksX9_init_3 2 rfl rfl)
theorem dX9_init_72 : decode cX9_init 72 = .ok (.aload_n 1, 1) := dk_43 (dk_at dksX9_init_3 4 rfl rfl)
theorem dX9_init_73 : decode cX9_init 73 = .ok (.getfield 18, 3) := dk_180 0 18 (dk_at dksX9_init_3 5 rfl rfl)
theorem dX9_init_76 : decode cX9_init 76 = .ok (.getfield 22, 3) := dk_180 0 22 (dk_at dksX9_init_3 8 rfl rfl)
theorem dX9_init_79 : decode cX9_init 79 = .ok (.iload 5, 2) := dk_21 5 (dk_at dksX9_init_3 11 rfl rfl)
theorem dX9_init_81 : decode cX9_init 81 = .ok (.iaload, 1) := dk_46 (dk_at dksX9_init_3 13 rfl rfl)
theorem dX9_init_82 : decode cX9_init 82 = .ok (.if_icmp .ne 7, 3) := dk_160 0 7 (dk_at dksX9_init_3 14 rfl rfl)
theorem dX9_init_85 : decode cX9_init 85 = .ok (.iconst 0, 1) := dk_3 (dk_at dksX9_init_3 17 rfl rfl)
theorem dX9_init_86 : decode cX9_init 86 = .ok (.goto 4, 3) := dk_167 0 4 (dk_at dksX9_init_3 18 rfl rfl)
theorem dX9_init_89 : decode cX9_init 89 = .ok (.iconst 1, 1) := dk_4 (dk_at dksX9_init_3 21 rfl rfl)
theorem dX9_init_90 : decode cX9_init 90 = .ok (.iadd, 1) := dk_96 (dk_at dksX9_init_3 22 rfl rfl)
theorem dX9_init_91 : decode cX9_init 91 = .ok (.istore 8, 2) := dk_54 8 (dk_at dksX9_init_4 0 rfl rfl)
theorem dX9_init_93 : decode cX9_init 93 = .ok (.iinc 6 1, 3) := dk_132 6 1 (dk_at dksX9_init_4 2 rfl rfl)
theorem dX9_init_96 : decode cX9_init 96 = .ok (.iload 9, 2) := dk_21 9 (dk_at dksX9_init_4 5 rfl rfl)
theorem dX9_init_98 : decode cX9_init 98 = .ok (.istore 5, 2) := dk_54 5 (dk_at dksX9_init_4 7 rfl rfl)
theorem dX9_init_100 : decode cX9_init 100 = .ok (.iload 5, 2) := dk_21 5 (dk_at dksX9_init_4 9 rfl rfl)
theorem dX9_init_102 : decode cX9_init 102 = .ok (.iload_n 3, 1) := dk_29 (dk_at dksX9_init_4 11 rfl rfl)
theorem dX9_init_103 : decode cX9_init 103 = .ok (.if_icmp .ne 7, 3) := dk_160 0 7 (dk_at dksX9_init_4 12 rfl rfl)
theorem dX9_init_106 : decode cX9_init 106 = .ok (.iconst (-1), 1) := dk_2 (dk_at dksX9_init_4 15 rfl rfl)
theorem dX9_init_107 : decode cX9_init 107 = .ok (.goto 11, 3) := dk_167 0 11 (dk_at dksX9_init_4 16 rfl rfl)
theorem dX9_init_110 : decode cX9_init 110 = .ok (.aload_n 1, 1) := dk_43 (dk_at dksX9_init_4 19 rfl rfl)
theorem dX9_init_111 : decode cX9_init 111 = .ok (.iload 5, 2) := dk_21 5 (dk_at dksX9_init_4 20 rfl rfl)
theorem dX9_init_113 : decode cX9_init 113 = .ok (.iload 4, 2) := dk_21 4 (dk_at dksX9_init_4 22 rfl rfl)
theorem dX9_init_115 : decode cX9_init 115 = .ok (.invokevirtual 9, 3) := dk_182 0 9 (dk_at dksX9_init_5 0 rfl rfl)
theorem dX9_init_118 : decode cX9_init 118 = .ok (.istore 9, 2) := dk_54 9 (dk_at dksX9_init_5 3 rfl rfl)
theorem dX9_init_120 : decode cX9_init 120 = .ok (.goto (-84), 3) := dk_167 255 172 (dk_at dksX9_init_5 5 rfl rfl)
theorem dX9_init_123 : decode cX9_init 123 = .ok (.aload_n 0, 1) := dk_42 (dk_at dksX9_init_5 8 rfl rfl)
theorem dX9_init_124 : decode cX9_init 124 = .ok (.iload 5, 2) := dk_21 5 (dk_at dksX9_init_5 9 rfl rfl)
theorem dX9_init_126 : decode cX9_init 126 = .ok (.iload_n 3, 1) := dk_29 (dk_at dksX9_init_5 11 rfl rfl)
theorem dX9_init_127 : decode cX9_init 127 = .ok (.if_icmp .ne 7, 3) := dk_160 0 7 (dk_at dksX9_init_5 12 rfl rfl)
theorem dX9_init_130 : decode cX9_init 130 = .ok (.iconst 1, 1) := dk_4 (dk_at dksX9_init_5 15 rfl rfl)
theorem dX9_init_131 : decode cX9_init 131 = .ok (.goto 4, 3) := dk_167 0 4 (dk_at dksX9_init_5 16 rfl rfl)
theorem dX9_init_134 : decode cX9_init 134 = .ok (.iconst 0, 1) := dk_3 (dk_at dksX9_init_5 19 rfl rfl)
theorem dX9_init_135 : decode cX9_init 135 = .ok (.putfield 28, 3) := dk_181 0 28 (dk_at dksX9_init_5 20 rfl rfl)
theorem dX9_init_138 : decode cX9_init 138 = .ok (.aload_n 0, 1) := dk_42 (dk_at dksX9_init_5 23 rfl rfl)
theorem dX9_init_139 : decode cX9_init 139 = .ok (.aload_n 0, 1) := dk_42 (dk_at dksX9_init_6 0 rfl rfl)
theorem dX9_init_140 : decode cX9_init 140 = .ok (.getfield 28, 3) := dk_180 0 28 (dk_at dksX9_init_6 1 rfl rfl)
theorem dX9_init_143 : decode cX9_init 143 = .ok (.ifCond .ne 13, 3) := dk_154 0 13 (dk_at dksX9_init_6 4 rfl rfl)
theorem dX9_init_146 : decode cX9_init 146 = .ok (.iload 9, 2) := dk_21 9 (dk_at dksX9_init_6 7 rfl rfl)
theorem dX9_init_148 : decode cX9_init 148 = .ok (.iconst (-1), 1) := dk_2 (dk_at dksX9_init_6 9 rfl rfl)
theorem dX9_init_149 : decode cX9_init 149 = .ok (.if_icmp .ne 7, 3) := dk_160 0 7 (dk_at dksX9_init_6 10 rfl rfl)
theorem dX9_init_152 : decode cX9_init 152 = .ok (.iconst 1, 1) := dk_4 (dk_at dksX9_init_6 13 rfl rfl)
theorem dX9_init_153 : decode cX9_init 153 = .ok (.goto 4, 3) := dk_167 0 4 (dk_at dksX9_init_6 14 rfl rfl)
theorem dX9_init_156 : decode cX9_init 156 = .ok (.iconst 0, 1) := dk_3 (dk_at dksX9_init_6 17 rfl rfl)
theorem dX9_init_157 : decode cX9_init 157 = .ok (.putfield 34, 3) := dk_181 0 34 (dk_at dksX9_init_6 18 rfl rfl)
theorem dX9_init_160 : decode cX9_init 160 = .ok (.aload_n 0, 1) := dk_42 (dk_at dksX9_init_6 21 rfl rfl)
theorem dX9_init_161 : decode cX9_init 161 = .ok (.iload 5, 2) := dk_21 5 (dk_at dksX9_init_6 22 rfl rfl)
theorem dX9_init_163 : decode cX9_init 163 = .ok (.putfield 37, 3) := dk_181 0 37 (dk_at dksX9_init_7 0 rfl rfl)
theorem dX9_init_166 : decode cX9_init 166 = .ok (.aload_n 0, 1) := dk_42 (dk_at dksX9_init_7 3 rfl rfl)
theorem dX9_init_167 : decode cX9_init 167 = .ok (.iload 6, 2) := dk_21 6 (dk_at dksX9_init_7 4 rfl rfl)
theorem dX9_init_169 : decode cX9_init 169 = .ok (.putfield 41, 3) := dk_181 0 41 (dk_at dksX9_init_7 6 rfl rfl)
theorem dX9_init_172 : decode cX9_init 172 = .ok (.aload_n 0, 1) := dk_42 (dk_at dksX9_init_7 9 rfl rfl)
theorem dX9_init_173 : decode cX9_init 173 = .ok (.iload 8, 2) := dk_21 8 (dk_at dksX9_init_7 10 rfl rfl)
theorem dX9_init_175 : decode cX9_init 175 = .ok (.putfield 44, 3) := dk_181 0 44 (dk_at dksX9_init_7 12 rfl rfl)
theorem dX9_init_178 : decode cX9_init 178 = .ok (.aload_n 0, 1) := dk_42 (dk_at dksX9_init_7 15 rfl rfl)
theorem dX9_init_179 : decode cX9_init 179 = .ok (.iload 7, 2) := dk_21 7 (dk_at dksX9_init_7 16 rfl rfl)
theorem dX9_init_181 : decode cX9_init 181 = .ok (.putfield 47, 3) := dk_181 0 47 (dk_at dksX9_init_7 18 rfl rfl)
theorem dX9_init_184 : decode cX9_init 184 = .ok (.return_, 1) := dk_177 (dk_at dksX9_init_7 21 rfl rfl)
theorem q113 : (Jvm.Cond.initialized "InnRoad$Ride") ∈ lw_all := lw_g (lw_at lw_m1 44 rfl) rfl
theorem q138 : (Jvm.Cond.fieldLinkNest "InnRoad$Ride" (22 : Nat) "InnRoad$Links" "next" "[I" "InnRoad") ∈ lw_tbl := lw_at lw_m1 69 rfl
theorem q175 : (Jvm.Cond.fieldLinkNest "InnRoad$Ride" (18 : Nat) "InnRoad$Road" "links" "LInnRoad$Links;" "InnRoad") ∈ lw_tbl := lw_at lw_m1 106 rfl
theorem q714 : (Jvm.Cond.selects "InnRoad$Ride" ({ cls := "java/lang/Object", name := "getClass", desc := "()Ljava/lang/Class;" } : Jvm.MethodName) ({ cls := "java/lang/Object", name := "getClass", desc := "()Ljava/lang/Class;" } : Jvm.MethodName)) ∈ lw_all := lw_g (lw_at lw_m3 165 rfl) rfl
theorem q986 : (Jvm.Cond.selects "InnRoad$Ride" ({ cls := "java/lang/Object", name := "hashCode", desc := "()I" } : Jvm.MethodName) ({ cls := "java/lang/Object", name := "hashCode", desc := "()I" } : Jvm.MethodName)) ∈ lw_all := lw_g (lw_at lw_m4 197 rfl) rfl
theorem q1079 : (Jvm.Cond.selects "InnRoad$Ride" ({ cls := "java/lang/Object", name := "equals", desc := "(Ljava/lang/Object;)Z" } : Jvm.MethodName) ({ cls := "java/lang/Object", name := "equals", desc := "(Ljava/lang/Object;)Z" } : Jvm.MethodName)) ∈ lw_all := lw_g (lw_at lw_m5 50 rfl) rfl
theorem q2030 : (Jvm.Cond.instantiable "InnRoad$Ride" (6 : Nat)) ∈ lw_all := lw_g (lw_at lw_m9 41 rfl) rfl
theorem q2032 : (Jvm.Cond.instanceMethod ({ cls := "InnRoad$Ride", name := "<init>", desc := "(LInnRoad$Road;III)V" } : Jvm.MethodName)) ∈ lw_all := lw_g (lw_at lw_m9 43 rfl) rfl
theorem q2033 : (Jvm.Cond.code ({ cls := "InnRoad$Ride", name := "<init>", desc := "(LInnRoad$Road;III)V" } : Jvm.MethodName) prog_7_method_1_code (10 : Nat) (Option.none : Option Jvm.ClassFile.FieldType)) ∈ lw_all := lw_g (lw_at lw_m9 44 rfl) rfl
theorem q2034 : (Jvm.Cond.methodLink "InnRoad$Ride" (3 : Nat) ({ cls := "java/lang/Object", name := "<init>", desc := "()V" } : Jvm.MethodName)) ∈ lw_all := lw_g (lw_at lw_m9 45 rfl) rfl
theorem q2035 : (Jvm.Cond.methodLink "InnRoad$Ride" (9 : Nat) ({ cls := "InnRoad$Road", name := "stageEnd", desc := "(II)I" } : Jvm.MethodName)) ∈ lw_all := lw_g (lw_at lw_m9 46 rfl) rfl
theorem q2044 : (Jvm.Cond.methodLink "InnRoad$Ride" (15 : Nat) ({ cls := "InnRoad$Road", name := "distance", desc := "(II)I" } : Jvm.MethodName)) ∈ lw_all := lw_g (lw_at lw_m9 55 rfl) rfl
theorem q2045 : (Jvm.Cond.fieldLink "InnRoad$Ride" (28 : Nat) "InnRoad$Ride" "hasArrived" "Z") ∈ lw_all := lw_g (lw_at lw_m9 56 rfl) rfl
theorem q2047 : (Jvm.Cond.fieldLink "InnRoad$Ride" (34 : Nat) "InnRoad$Ride" "isStuck" "Z") ∈ lw_all := lw_g (lw_at lw_m9 58 rfl) rfl
theorem q2049 : (Jvm.Cond.fieldLink "InnRoad$Ride" (37 : Nat) "InnRoad$Ride" "end" "I") ∈ lw_all := lw_g (lw_at lw_m9 60 rfl) rfl
theorem q2051 : (Jvm.Cond.fieldLink "InnRoad$Ride" (41 : Nat) "InnRoad$Ride" "stages" "I") ∈ lw_all := lw_g (lw_at lw_m9 62 rfl) rfl
theorem q2053 : (Jvm.Cond.fieldLink "InnRoad$Ride" (44 : Nat) "InnRoad$Ride" "skips" "I") ∈ lw_all := lw_g (lw_at lw_m9 64 rfl) rfl
theorem q2055 : (Jvm.Cond.fieldLink "InnRoad$Ride" (47 : Nat) "InnRoad$Ride" "length" "I") ∈ lw_all := lw_g (lw_at lw_m9 66 rfl) rfl
theorem q2057 : (Jvm.Cond.laysFinal "InnRoad$Ride" "InnRoad$Ride" "hasArrived" "Z") ∈ lw_all := lw_g (lw_at lw_m9 68 rfl) rfl
theorem q2058 : (Jvm.Cond.soleField "InnRoad$Ride" "hasArrived") ∈ lw_all := lw_g (lw_at lw_m9 69 rfl) rfl
theorem q2059 : (Jvm.Cond.laysFinal "InnRoad$Ride" "InnRoad$Ride" "isStuck" "Z") ∈ lw_all := lw_g (lw_at lw_m9 70 rfl) rfl
theorem q2060 : (Jvm.Cond.soleField "InnRoad$Ride" "isStuck") ∈ lw_all := lw_g (lw_at lw_m9 71 rfl) rfl
theorem q2061 : (Jvm.Cond.laysFinal "InnRoad$Ride" "InnRoad$Ride" "end" "I") ∈ lw_all := lw_g (lw_at lw_m9 72 rfl) rfl
theorem q2062 : (Jvm.Cond.soleField "InnRoad$Ride" "end") ∈ lw_all := lw_g (lw_at lw_m9 73 rfl) rfl
theorem q2063 : (Jvm.Cond.laysFinal "InnRoad$Ride" "InnRoad$Ride" "stages" "I") ∈ lw_all := lw_g (lw_at lw_m9 74 rfl) rfl
theorem q2064 : (Jvm.Cond.soleField "InnRoad$Ride" "stages") ∈ lw_all := lw_g (lw_at lw_m9 75 rfl) rfl
theorem q2065 : (Jvm.Cond.laysFinal "InnRoad$Ride" "InnRoad$Ride" "skips" "I") ∈ lw_all := lw_g (lw_at lw_m9 76 rfl) rfl
theorem q2066 : (Jvm.Cond.soleField "InnRoad$Ride" "skips") ∈ lw_all := lw_g (lw_at lw_m9 77 rfl) rfl
theorem q2067 : (Jvm.Cond.laysFinal "InnRoad$Ride" "InnRoad$Ride" "length" "I") ∈ lw_all := lw_g (lw_at lw_m9 78 rfl) rfl
theorem q2068 : (Jvm.Cond.soleField "InnRoad$Ride" "length") ∈ lw_all := lw_g (lw_at lw_m9 79 rfl) rfl
theorem q2069 : (Jvm.Cond.superclass "InnRoad$Ride" "java/lang/Object") ∈ lw_all := lw_g (lw_at lw_m9 80 rfl) rfl
theorem q2927 : (Jvm.Cond.castable "InnRoad$Ride" "java/lang/Object") ∈ lw_tbl := lw_at lw_m12 218 rfl
theorem in_X9 : ∀ w ∈ wsX90, w ∈ lw_all := lw_in wsX90 [2057, 2059, 2061, 2063, 2065, 2067] (by decide +kernel) (by decide +kernel)
