/-! InnRoadModel -/
set_option maxRecDepth 100000
def RX6 : String := "InnRoadModel"
def TX6 : u_T := fun k => match k with
  | 0 => ("InnRoadModel", "thrown", "I", false)
  | 1 => ("InnRoadModel", "now", "[I", true)
  | 2 => ("InnRoadModel", "kept", "[I", true)
  | 3 => ("InnRoadModel", "read", "[I", true)
  | 4 => ("InnRoadModel", "due", "[I", true)
  | 5 => ("InnRoadModel", "trial", "[I", true)
  | 6 => ("InnRoadModel", "past", "[[I", true)
  | 7 => ("InnRoadModel", "changes", "I", false)
  | 8 => ("InnRoadModel", "isKept", "Z", false)
  | 9 => ("InnRoadModel", "chain", "[I", true)
  | 10 => ("InnRoadModel", "chainMany", "I", false)
  | 11 => ("InnRoadModel", "chainEnd", "I", false)
  | 12 => ("InnRoadModel", "stagesMany", "I", false)
  | 13 => ("InnRoadModel", "rideMiles", "I", false)
  | 14 => ("InnRoadModel", "rideSkips", "I", false)
  | 15 => ("InnRoadModel", "rideEnd", "I", false)
  | 16 => ("InnRoadModel", "buffer", "[B", true)
  | 17 => ("InnRoadModel", "text", "[B", true)
  | 18 => ("InnRoadModel", "length", "I", false)
  | 19 => ("InnRoadModel", "textLength", "I", false)
  | 20 => ("InnRoadModel", "at", "I", false)
  | 21 => ("InnRoadModel", "start", "I", false)
  | 22 => ("InnRoadModel", "token", "I", false)
  | 23 => ("InnRoadModel", "number", "I", false)
  | _ => ("InnRoadModel", "lastIndex", "I", false)
def tyX6 : Nat → FieldType := fun k => match k with
  | 0 => .int
  | 1 => .array .int
  | 2 => .array .int
  | 3 => .array .int
  | 4 => .array .int
  | 5 => .array .int
  | 6 => .array (.array .int)
  | 7 => .int
  | 8 => .boolean
  | 9 => .array .int
  | 10 => .int
  | 11 => .int
  | 12 => .int
  | 13 => .int
  | 14 => .int
  | 15 => .int
  | 16 => .array .byte
  | 17 => .array .byte
  | 18 => .int
  | 19 => .int
  | 20 => .int
  | 21 => .int
  | 22 => .int
  | 23 => .int
  | _ => .int
abbrev wsX60 : List Cond := u_ws RX6 TX6 25
set_option maxRecDepth 100000 in
theorem nmX6 : ∀ a, a < 25 → ∀ b, b < 25 → a ≠ b → (TX6 a).2.1 ≠ (TX6 b).2.1 := by decide +kernel
set_option maxRecDepth 100000 in
theorem tyX6_ok : ∀ k, k < 25 → parseFieldDescriptor (TX6 k).2.2.1 = some (tyX6 k) := by decide +kernel
abbrev cX6_thrown : ByteArray := prog_12_method_1_code
def yX6_thrown : MethodName := ⟨RX6, "thrown", "()I"⟩
theorem dX6_thrown_0 : decode cX6_thrown 0 = .ok (.aload_n 0, 1) := by decide +kernel
theorem dX6_thrown_1 : decode cX6_thrown 1 = .ok (.getfield 3, 3) := by decide +kernel
theorem dX6_thrown_4 : decode cX6_thrown 4 = .ok (.ireturn, 1) := by decide +kernel
abbrev cX6_init : ByteArray := prog_12_method_4_code
def yX6_init : MethodName := ⟨RX6, "<init>", "()V"⟩
def dkwX6_init_6 : List UInt8 := [180, 0, 13, 16, 40, 6, 79, 42, 180, 0, 13, 16, 30, 3, 79, 42, 180, 0, 13, 184, 0, 48, 177]
abbrev dktX6_init_6 : List UInt8 := dkwX6_init_6 ++ []
def dkwX6_init_5 : List UInt8 := [184, 0, 44, 42, 180, 0, 13, 6, 16, 55, 184, 0, 44, 42, 180, 0, 13, 7, 16, 90, 184, 0, 44, 42]
abbrev dktX6_init_5 : List UInt8 := dkwX6_init_5 ++ dktX6_init_6
def dkwX6_init_4 : List UInt8 := [3, 16, 10, 184, 0, 44, 42, 180, 0, 13, 4, 16, 75, 184, 0, 44, 42, 180, 0, 13, 5, 16, 30]
abbrev dktX6_init_4 : List UInt8 := dkwX6_init_4 ++ dktX6_init_5
def dkwX6_init_3 : List UInt8 := [181, 0, 37, 42, 17, 3, 32, 188, 8, 181, 0, 41, 42, 180, 0, 13, 3, 16, 40, 79, 42, 180, 0, 13]
abbrev dktX6_init_3 : List UInt8 := dkwX6_init_3 ++ dktX6_init_4
def dkwX6_init_2 : List UInt8 := [16, 78, 197, 0, 29, 2, 181, 0, 31, 42, 16, 12, 188, 10, 181, 0, 34, 42, 17, 1, 244, 188, 8]
abbrev dktX6_init_2 : List UInt8 := dkwX6_init_2 ++ dktX6_init_3
def dkwX6_init_1 : List UInt8 := [188, 10, 181, 0, 20, 42, 16, 78, 188, 10, 181, 0, 23, 42, 16, 78, 188, 10, 181, 0, 26, 42, 16, 8]
abbrev dktX6_init_1 : List UInt8 := dkwX6_init_1 ++ dktX6_init_2
def dkwX6_init_0 : List UInt8 := [42, 183, 0, 7, 42, 16, 78, 188, 10, 181, 0, 13, 42, 16, 78, 188, 10, 181, 0, 17, 42, 16, 78]
abbrev dktX6_init_0 : List UInt8 := dkwX6_init_0 ++ dktX6_init_1
theorem dksX6_init_0 : cX6_init.data.toList.drop 0 = dktX6_init_0 := by decide +kernel
theorem dksX6_init_1 : cX6_init.data.toList.drop 23 = dktX6_init_1 := dk_seg dksX6_init_0 23 rfl rfl
theorem dksX6_init_2 : cX6_init.data.toList.drop 47 = dktX6_init_2 := dk_seg dksX6_init_1 24 rfl rfl
theorem dksX6_init_3 : cX6_init.data.toList.drop 70 = dktX6_init_3 := dk_seg dksX6_init_2 23 rfl rfl
theorem dksX6_init_4 : cX6_init.data.toList.drop 94 = dktX6_init_4 := dk_seg dksX6_init_3 24 rfl rfl
theorem dksX6_init_5 : cX6_init.data.toList.drop 117 = dktX6_init_5 := dk_seg dksX6_init_4 23 rfl rfl
theorem dksX6_init_6 : cX6_init.data.toList.drop 141 = dktX6_init_6 := dk_seg dksX6_init_5 24 rfl rfl
theorem dX6_init_0 : decode cX6_init 0 = .ok (.aload_n 0, 1) := dk_42 (dk_at dksX6_init_0 0 rfl rfl)
theorem dX6_init_1 : decode cX6_init 1 = .ok (.invokespecial 7, 3) := dk_183 0 7 (dk_at dksX6_init_0 1 rfl rfl)
theorem dX6_init_4 : decode cX6_init 4 = .ok (.aload_n 0, 1) := dk_42 (dk_at dksX6_init_0 4 rfl rfl)
theorem dX6_init_5 : decode cX6_init 5 = .ok (.bipush 78, 2) := dk_16 78 (dk_at dksX6_init_0 5 rfl rfl)
theorem dX6_init_7 : decode cX6_init 7 = .ok (.newarray .int, 2) := dk_188_10 (dk_at dksX6_init_0 7 rfl rfl)
theorem dX6_init_9 : decode cX6_init 9 = .ok (.putfield 13, 3) := dk_181 0 13 (dk_at dksX6_init_0 9 rfl rfl)
theorem dX6_init_12 : decode cX6_init 12 = .ok (.aload_n 0, 1) := dk_42 (dk_at dksX6_init_0 12 rfl rfl)
theorem dX6_init_13 : decode cX6_init 13 = .ok (.bipush 78, 2) := dk_16 78 (dk_at dksX6_init_0 13 rfl rfl)
theorem dX6_init_15 : decode cX6_init 15 = .ok (.newarray .int, 2) := dk_188_10 (dk_at dksX6_init_0 15 rfl rfl)
theorem dX6_init_17 : decode cX6_init 17 = .ok (.putfield 17, 3) := dk_181 0 17 (dk_at dksX6_init_0 17 rfl rfl)
theorem dX6_init_20 : decode cX6_init 20 = .ok (.aload_n 0, 1) := dk_42 (dk_at dksX6_init_0 20 rfl rfl)
theorem dX6_init_21 : decode cX6_init 21 = .ok (.bipush 78, 2) := dk_16 78 (dk_at dksX6_init_0 21 rfl rfl)
theorem dX6_init_23 : decode cX6_init 23 = .ok (.newarray .int, 2) := dk_188_10 (dk_at dksX6_init_1 0 rfl rfl)
theorem dX6_init_25 : decode cX6_init 25 = .ok (.putfield 20, 3) := dk_181 0 20 (dk_at dksX6_init_1 2 rfl rfl)
theorem dX6_init_28 : decode cX6_init 28 = .ok (.aload_n 0, 1) := dk_42 (dk_at dksX6_init_1 5 rfl rfl)
theorem dX6_init_29 : decode cX6_init 29 = .ok (.bipush 78, 2) := dk_16 78 (dk_at dksX6_init_1 6 rfl rfl)
theorem dX6_init_31 : decode cX6_init 31 = .ok (.newarray .int, 2) := dk_188_10 (dk_at dksX6_init_1 8 rfl rfl)
theorem dX6_init_33 : decode cX6_init 33 = .ok (.putfield 23, 3) := dk_181 0 23 (dk_at dksX6_init_1 10 rfl rfl)
theorem dX6_init_36 : decode cX6_init 36 = .ok (.aload_n 0, 1) := dk_42 (dk_at dksX6_init_1 13 rfl rfl)
theorem dX6_init_37 : decode cX6_init 37 = .ok (.bipush 78, 2) := dk_16 78 (dk_at dksX6_init_1 14 rfl rfl)
theorem dX6_init_39 : decode cX6_init 39 = .ok (.newarray .int, 2) := dk_188_10 (dk_at dksX6_init_1 16 rfl rfl)
theorem dX6_init_41 : decode cX6_init 41 = .ok (.putfield 26, 3) := dk_181 0 26 (dk_at dksX6_init_1 18 rfl rfl)
theorem dX6_init_44 : decode cX6_init 44 = .ok (.aload_n 0, 1) := dk_42 (dk_at dksX6_init_1 21 rfl rfl)
theorem dX6_init_45 : decode cX6_init 45 = .ok (.bipush 8, 2) := dk_16 8 (dk_at dksX6_init_1 22 rfl rfl)
theorem dX6_init_47 : decode cX6_init 47 = .ok (.bipush 78, 2) := dk_16 78 (dk_at dksX6_init_2 0 rfl rfl)
theorem dX6_init_49 : decode cX6_init 49 = .ok (.multianewarray 29 2, 4) := by decide +kernel
theorem dX6_init_53 : decode cX6_init 53 = .ok (.putfield 31, 3) := dk_181 0 31 (dk_at dksX6_init_2 6 rfl rfl)
theorem dX6_init_56 : decode cX6_init 56 = .ok (.aload_n 0, 1) := dk_42 (dk_at dksX6_init_2 9 rfl rfl)
theorem dX6_init_57 : decode cX6_init 57 = .ok (.bipush 12, 2) := dk_16 12 (dk_at dksX6_init_2 10 rfl rfl)
theorem dX6_init_59 : decode cX6_init 59 = .ok (.newarray .int, 2) := dk_188_10 (dk_at dksX6_init_2 12 rfl rfl)
theorem dX6_init_61 : decode cX6_init 61 = .ok (.putfield 34, 3) := dk_181 0 34 (dk_at dksX6_init_2 14 rfl rfl)
theorem dX6_init_64 : decode cX6_init 64 = .ok (.aload_n 0, 1) := dk_42 (dk_at dksX6_init_2 17 rfl rfl)
theorem dX6_init_65 : decode cX6_init 65 = .ok (.sipush 500, 3) := dk_17 1 244 (dk_at dksX6_init_2 18 rfl rfl)
theorem dX6_init_68 : decode cX6_init 68 = .ok (.newarray .byte, 2) := dk_188_8 (dk_at dksX6_init_2 21 rfl rfl)
theorem dX6_init_70 : decode cX6_init 70 = .ok (.putfield 37, 3) := dk_181 0 37 (dk_at dksX6_init_3 0 rfl rfl)
theorem dX6_init_73 : decode cX6_init 73 = .ok (.aload_n 0, 1) := dk_42 (dk_at dksX6_init_3 3 rfl rfl)
theorem dX6_init_74 : decode cX6_init 74 = .ok (.sipush 800, 3) := dk_17 3 32 (dk_at dksX6_init_3 4 rfl rfl)
theorem dX6_init_77 : decode cX6_init 77 = .ok (.newarray .byte, 2) := dk_188_8 (dk_at dksX6_init_3 7 rfl rfl)
theorem dX6_init_79 : decode cX6_init 79 = .ok (.putfield 41, 3) := dk_181 0 41 (dk_at dksX6_init_3 9 rfl rfl)
theorem dX6_init_82 : decode cX6_init 82 = .ok (.aload_n 0, 1) := dk_42 (dk_at dksX6_init_3 12 rfl rfl)
theorem dX6_init_83 : decode cX6_init 83 = .ok (.getfield 13, 3) := dk_180 0 13 (dk_at dksX6_init_3 13 rfl rfl)
theorem dX6_init_86 : decode cX6_init 86 = .ok (.iconst 0, 1) := dk_3 (dk_at dksX6_init_3 16 rfl rfl)
theorem dX6_init_87 : decode cX6_init 87 = .ok (.bipush 40, 2) := dk_16 40 (dk_at dksX6_init_3 17 rfl rfl)
theorem dX6_init_89 : decode cX6_init 89 = .ok (.iastore, 1) := dk_79 (dk_at dksX6_init_3 19 rfl rfl)
theorem dX6_init_90 : decode cX6_init 90 = .ok (.aload_n 0, 1) := dk_42 (dk_at dksX6_init_3 20 rfl rfl)
theorem dX6_init_91 : decode cX6_init 91 = .ok (.getfield 13, 3) := dk_180 0 13 (dk_at dksX6_init_3 21 rfl rfl)
theorem dX6_init_94 : decode cX6_init 94 = .ok (.iconst 0, 1) := dk_3 (dk_at dksX6_init_4 0 rfl rfl)
theorem dX6_init_95 : decode cX6_init 95 = .ok (.bipush 10, 2) := dk_16 10 (dk_at dksX6_init_4 1 rfl rfl)
theorem dX6_init_97 : decode cX6_init 97 = .ok (.invokestatic 44, 3) := dk_184 0 44 (dk_at dksX6_init_4 3 rfl rfl)
theorem dX6_init_100 : decode cX6_init 100 = .ok (.aload_n 0, 1) := dk_42 (dk_at dksX6_init_4 6 rfl rfl)
theorem dX6_init_101 : decode cX6_init 101 = .ok (.getfield 13, 3) := dk_180 0 13 (dk_at dksX6_init_4 7 rfl rfl)
theorem dX6_init_104 : decode cX6_init 104 = .ok (.iconst 1, 1) := dk_4 (dk_at dksX6_init_4 10 rfl rfl)
theorem dX6_init_105 : decode cX6_init 105 = .ok (.bipush 75, 2) := dk_16 75 (dk_at dksX6_init_4 11 rfl rfl)
theorem dX6_init_107 : decode cX6_init 107 = .ok (.invokestatic 44, 3) := dk_184 0 44 (dk_at dksX6_init_4 13 rfl rfl)
theorem dX6_init_110 : decode cX6_init 110 = .ok (.aload_n 0, 1) := dk_42 (dk_at dksX6_init_4 16 rfl rfl)
theorem dX6_init_111 : decode cX6_init 111 = .ok (.getfield 13, 3) := dk_180 0 13 (dk_at dksX6_init_4 17 rfl rfl)
theorem dX6_init_114 : decode cX6_init 114 = .ok (.iconst 2, 1) := dk_5 (dk_at dksX6_init_4 20 rfl rfl)
theorem dX6_init_115 : decode cX6_init 115 = .ok (.bipush 30, 2) := dk_16 30 (dk_at dksX6_init_4 21 rfl rfl)
theorem dX6_init_117 : decode cX6_init 117 = .ok (.invokestatic 44, 3) := dk_184 0 44 (dk_at dksX6_init_5 0 rfl rfl)
theorem dX6_init_120 : decode cX6_init 120 = .ok (.aload_n 0, 1) := dk_42 (dk_at dksX6_init_5 3 rfl rfl)
theorem dX6_init_121 : decode cX6_init 121 = .ok (.getfield 13, 3) := dk_180 0 13 (dk_at dksX6_init_5 4 rfl rfl)
theorem dX6_init_124 : decode cX6_init 124 = .ok (.iconst 3, 1) := dk_6 (dk_at dksX6_init_5 7 rfl rfl)
theorem dX6_init_125 : decode cX6_init 125 = .ok (.bipush 55, 2) := dk_16 55 (dk_at dksX6_init_5 8 rfl rfl)
theorem dX6_init_127 : decode cX6_init 127 = .ok (.invokestatic 44, 3) := dk_184 0 44 (dk_at dksX6_init_5 10 rfl rfl)
theorem dX6_init_130 : decode cX6_init 130 = .ok (.aload_n 0, 1) := dk_42 (dk_at dksX6_init_5 13 rfl rfl)
theorem dX6_init_131 : decode cX6_init 131 = .ok (.getfield 13, 3) := dk_180 0 13 (dk_at dksX6_init_5 14 rfl rfl)
theorem dX6_init_134 : decode cX6_init 134 = .ok (.iconst 4, 1) := dk_7 (dk_at dksX6_init_5 17 rfl rfl)
theorem dX6_init_135 : decode cX6_init 135 = .ok (.bipush 90, 2) := dk_16 90 (dk_at dksX6_init_5 18 rfl rfl)
theorem dX6_init_137 : decode cX6_init 137 = .ok (.invokestatic 44, 3) := dk_184 0 44 (dk_at dksX6_init_5 20 rfl rfl)
theorem dX6_init_140 : decode cX6_init 140 = .ok (.aload_n 0, 1) := dk_42 (dk_at dksX6_init_5 23 rfl rfl)
theorem dX6_init_141 : decode cX6_init 141 = .ok (.getfield 13, 3) := dk_180 0 13 (dk_at dksX6_init_6 0 rfl rfl)
theorem dX6_init_144 : decode cX6_init 144 = .ok (.bipush 40, 2) := dk_16 40 (dk_at dksX6_init_6 3 rfl rfl)
theorem dX6_init_146 : decode cX6_init 146 = .ok (.iconst 3, 1) := dk_6 (dk_at dksX6_init_6 5 rfl rfl)
theorem dX6_init_147 : decode cX6_init 147 = .ok (.iastore, 1) := dk_79 (dk_at dksX6_init_6 6 rfl rfl)
theorem dX6_init_148 : decode cX6_init 148 = .ok (.aload_n 0, 1) := dk_42 (dk_at dksX6_init_6 7 rfl rfl)
theorem dX6_init_149 : decode cX6_init 149 = .ok (.getfield 13, 3) := dk_180 0 13 (dk_at dksX6_init_6 8 rfl rfl)
theorem dX6_init_152 : decode cX6_init 152 = .ok (.bipush 30, 2) := dk_16 30 (dk_at dksX6_init_6 11 rfl rfl)
theorem dX6_init_154 : decode cX6_init 154 = .ok (.iconst 0, 1) := dk_3 (dk_at dksX6_init_6 13 rfl rfl)
theorem dX6_init_155 : decode cX6_init 155 = .ok (.iastore, 1) := dk_79 (dk_at dksX6_init_6 14 rfl rfl)
theorem dX6_init_156 : decode cX6_init 156 = .ok (.aload_n 0, 1) := dk_42 (dk_at dksX6_init_6 15 rfl rfl)
theorem dX6_init_157 : decode cX6_init 157 = .ok (.getfield 13, 3) := dk_180 0 13 (dk_at dksX6_init_6 16 rfl rfl)
theorem dX6_init_160 : decode cX6_init 160 = .ok (.invokestatic 48, 3) := dk_184 0 48 (dk_at dksX6_init_6 19 rfl rfl)
theorem dX6_init_163 : decode cX6_init 163 = .ok (.return_, 1) := dk_177 (dk_at dksX6_init_6 22 rfl rfl)
abbrev cX6_builds : ByteArray := prog_12_method_5_code
def yX6_builds : MethodName := ⟨RX6, "builds", "([III)V"⟩
def dkwX6_builds_1 : List UInt8 := [96, 3, 79, 177]
abbrev dktX6_builds_1 : List UInt8 := dkwX6_builds_1 ++ []
def dkwX6_builds_0 : List UInt8 := [42, 6, 27, 96, 4, 79, 42, 16, 15, 27, 96, 28, 79, 42, 16, 27, 27, 96, 4, 79, 42, 16, 39, 27]
abbrev dktX6_builds_0 : List UInt8 := dkwX6_builds_0 ++ dktX6_builds_1
theorem dksX6_builds_0 : cX6_builds.data.toList.drop 0 = dktX6_builds_0 := by decide +kernel
theorem dksX6_builds_1 : cX6_builds.data.toList.drop 24 = dktX6_builds_1 := dk_seg dksX6_builds_0 24 rfl rfl
theorem dX6_builds_0 : decode cX6_builds 0 = .ok (.aload_n 0, 1) := dk_42 (dk_at dksX6_builds_0 0 rfl rfl)
theorem dX6_builds_1 : decode cX6_builds 1 = .ok (.iconst 3, 1) := dk_6 (dk_at dksX6_builds_0 1 rfl rfl)
theorem dX6_builds_2 : decode cX6_builds 2 = .ok (.iload_n 1, 1) := dk_27 (dk_at dksX6_builds_0 2 rfl rfl)
theorem dX6_builds_3 : decode cX6_builds 3 = .ok (.iadd, 1) := dk_96 (dk_at dksX6_builds_0 3 rfl rfl)
theorem dX6_builds_4 : decode cX6_builds 4 = .ok (.iconst 1, 1) := dk_4 (dk_at dksX6_builds_0 4 rfl rfl)
theorem dX6_builds_5 : decode cX6_builds 5 = .ok (.iastore, 1) := dk_79 (dk_at dksX6_builds_0 5 rfl rfl)
theorem dX6_builds_6 : decode cX6_builds 6 = .ok (.aload_n 0, 1) := dk_42 (dk_at dksX6_builds_0 6 rfl rfl)
theorem dX6_builds_7 : decode cX6_builds 7 = .ok (.bipush 15, 2) := dk_16 15 (dk_at dksX6_builds_0 7 rfl rfl)
theorem dX6_builds_9 : decode cX6_builds 9 = .ok (.iload_n 1, 1) := dk_27 (dk_at dksX6_builds_0 9 rfl rfl)
theorem dX6_builds_10 : decode cX6_builds 10 = .ok (.iadd, 1) := dk_96 (dk_at dksX6_builds_0 10 rfl rfl)
theorem dX6_builds_11 : decode cX6_builds 11 = .ok (.iload_n 2, 1) := dk_28 (dk_at dksX6_builds_0 11 rfl rfl)
theorem dX6_builds_12 : decode cX6_builds 12 = .ok (.iastore, 1) := dk_79 (dk_at dksX6_builds_0 12 rfl rfl)
theorem dX6_builds_13 : decode cX6_builds 13 = .ok (.aload_n 0, 1) := dk_42 (dk_at dksX6_builds_0 13 rfl rfl)
theorem dX6_builds_14 : decode cX6_builds 14 = .ok (.bipush 27, 2) := dk_16 27 (dk_at dksX6_builds_0 14 rfl rfl)
theorem dX6_builds_16 : decode cX6_builds 16 = .ok (.iload_n 1, 1) := dk_27 (dk_at dksX6_builds_0 16 rfl rfl)
theorem dX6_builds_17 : decode cX6_builds 17 = .ok (.iadd, 1) := dk_96 (dk_at dksX6_builds_0 17 rfl rfl)
theorem dX6_builds_18 : decode cX6_builds 18 = .ok (.iconst 1, 1) := dk_4 (dk_at dksX6_builds_0 18 rfl rfl)
theorem dX6_builds_19 : decode cX6_builds 19 = .ok (.iastore, 1) := dk_79 (dk_at dksX6_builds_0 19 rfl rfl)
theorem dX6_builds_20 : decode cX6_builds 20 = .ok (.aload_n 0, 1) := dk_42 (dk_at dksX6_builds_0 20 rfl rfl)
theorem dX6_builds_21 : decode cX6_builds 21 = .ok (.bipush 39, 2) := dk_16 39 (dk_at dksX6_builds_0 21 rfl rfl)
theorem dX6_builds_23 : decode cX6_builds 23 = .ok (.iload_n 1, 1) := dk_27 (dk_at dksX6_builds_0 23 rfl rfl)
theorem dX6_builds_24 : decode cX6_builds 24 = .ok (.iadd, 1) := dk_96 (dk_at dksX6_builds_1 0 rfl rfl)
theorem dX6_builds_25 : decode cX6_builds 25 = .ok (.iconst 0, 1) := dk_3 (dk_at dksX6_builds_1 1 rfl rfl)
theorem dX6_builds_26 : decode cX6_builds 26 = .ok (.iastore, 1) := dk_79 (dk_at dksX6_builds_1 2 rfl rfl)
theorem dX6_builds_27 : decode cX6_builds 27 = .ok (.return_, 1) := dk_177 (dk_at dksX6_builds_1 3 rfl rfl)
abbrev cX6_rebuilds : ByteArray := prog_12_method_13_code
def yX6_rebuilds : MethodName := ⟨RX6, "rebuilds", "([I)V"⟩
def dkwX6_rebuilds_5 : List UInt8 := [16, 54, 42, 16, 54, 27, 96, 46, 96, 46, 79, 132, 1, 1, 167, 255, 216, 177]
abbrev dktX6_rebuilds_5 : List UInt8 := dkwX6_rebuilds_5 ++ []
def dkwX6_rebuilds_4 : List UInt8 := [162, 0, 40, 42, 16, 66, 27, 96, 42, 16, 54, 27, 96, 46, 2, 160, 0, 7, 2, 167, 0, 14, 42]
abbrev dktX6_rebuilds_4 : List UInt8 := dkwX6_rebuilds_4 ++ dktX6_rebuilds_5
def dkwX6_rebuilds_3 : List UInt8 := [160, 0, 7, 2, 167, 0, 12, 42, 16, 54, 42, 16, 51, 46, 96, 46, 79, 3, 60, 27, 16, 12]
abbrev dktX6_rebuilds_3 : List UInt8 := dkwX6_rebuilds_3 ++ dktX6_rebuilds_4
def dkwX6_rebuilds_2 : List UInt8 := [184, 0, 67, 167, 0, 4, 2, 79, 132, 1, 1, 167, 255, 218, 42, 16, 52, 42, 16, 51, 46, 2]
abbrev dktX6_rebuilds_2 : List UInt8 := dkwX6_rebuilds_2 ++ dktX6_rebuilds_3
def dkwX6_rebuilds_1 : List UInt8 := [162, 0, 38, 42, 16, 54, 27, 96, 42, 6, 27, 96, 46, 4, 160, 0, 16, 42, 42, 16, 15, 27, 96, 46]
abbrev dktX6_rebuilds_1 : List UInt8 := dkwX6_rebuilds_1 ++ dktX6_rebuilds_2
def dkwX6_rebuilds_0 : List UInt8 := [42, 16, 51, 42, 2, 184, 0, 67, 79, 42, 16, 53, 42, 184, 0, 71, 79, 3, 60, 27, 16, 12]
abbrev dktX6_rebuilds_0 : List UInt8 := dkwX6_rebuilds_0 ++ dktX6_rebuilds_1
theorem dksX6_rebuilds_0 : cX6_rebuilds.data.toList.drop 0 = dktX6_rebuilds_0 := by decide +kernel
theorem dksX6_rebuilds_1 : cX6_rebuilds.data.toList.drop 22 = dktX6_rebuilds_1 := dk_seg dksX6_rebuilds_0 22 rfl rfl
theorem dksX6_rebuilds_2 : cX6_rebuilds.data.toList.drop 46 = dktX6_rebuilds_2 := dk_seg dksX6_rebuilds_1 24 rfl rfl
theorem dksX6_rebuilds_3 : cX6_rebuilds.data.toList.drop 68 = dktX6_rebuilds_3 := dk_seg dksX6_rebuilds_2 22 rfl rfl
theorem dksX6_rebuilds_4 : cX6_rebuilds.data.toList.drop 90 = dktX6_rebuilds_4 := dk_seg dksX6_rebuilds_3 22 rfl rfl
theorem dksX6_rebuilds_5 : cX6_rebuilds.data.toList.drop 113 = dktX6_rebuilds_5 := dk_seg dksX6_rebuilds_4 23 rfl rfl
theorem dX6_rebuilds_0 : decode cX6_rebuilds 0 = .ok (.aload_n 0, 1) := dk_42 (dk_at dksX6_rebuilds_0 0 rfl rfl)
theorem dX6_rebuilds_1 : decode cX6_rebuilds 1 = .ok (.bipush 51, 2) := dk_16 51 (dk_at dksX6_rebuilds_0 1 rfl rfl)
theorem dX6_rebuilds_3 : decode cX6_rebuilds 3 = .ok (.aload_n 0, 1) := dk_42 (dk_at dksX6_rebuilds_0 3 rfl rfl)
theorem dX6_rebuilds_4 : decode cX6_rebuilds 4 = .ok (.iconst (-1), 1) := dk_2 (dk_at dksX6_rebuilds_0 4 rfl rfl)
theorem dX6_rebuilds_5 : decode cX6_rebuilds 5 = .ok (.invokestatic 67, 3) := dk_184 0 67 (dk_at dksX6_rebuilds_0 5 rfl rfl)
theorem dX6_rebuilds_8 : decode cX6_rebuilds 8 = .ok (.iastore, 1) := dk_79 (dk_at dksX6_rebuilds_0 8 rfl rfl)
theorem dX6_rebuilds_9 : decode cX6_rebuilds 9 = .ok (.aload_n 0, 1) := dk_42 (dk_at dksX6_rebuilds_0 9 rfl rfl)
theorem dX6_rebuilds_10 : decode cX6_rebuilds 10 = .ok (.bipush 53, 2) := dk_16 53 (dk_at dksX6_rebuilds_0 10 rfl rfl)
theorem dX6_rebuilds_12 : decode cX6_rebuilds 12 = .ok (.aload_n 0, 1) := dk_42 (dk_at dksX6_rebuilds_0 12 rfl rfl)
theorem dX6_rebuilds_13 : decode cX6_rebuilds 13 = .ok (.invokestatic 71, 3) := dk_184 0 71 (dk_at dksX6_rebuilds_0 13 rfl rfl)
theorem dX6_rebuilds_16 : decode cX6_rebuilds 16 = .ok (.iastore, 1) := dk_79 (dk_at dksX6_rebuilds_0 16 rfl rfl)
theorem dX6_rebuilds_17 : decode cX6_rebuilds 17 = .ok (.iconst 0, 1) := dk_3 (dk_at dksX6_rebuilds_0 17 rfl rfl)
theorem dX6_rebuilds_18 : decode cX6_rebuilds 18 = .ok (.istore_n 1, 1) := dk_60 (dk_at dksX6_rebuilds_0 18 rfl rfl)
theorem dX6_rebuilds_19 : decode cX6_rebuilds 19 = .ok (.iload_n 1, 1) := dk_27 (dk_at dksX6_rebuilds_0 19 rfl rfl)
theorem dX6_rebuilds_20 : decode cX6_rebuilds 20 = .ok (.bipush 12, 2) := dk_16 12 (dk_at dksX6_rebuilds_0 20 rfl rfl)
theorem dX6_rebuilds_22 : decode cX6_rebuilds 22 = .ok (.if_icmp .ge 38, 3) := dk_162 0 38 (dk_at dksX6_rebuilds_1 0 rfl rfl)
theorem dX6_rebuilds_25 : decode cX6_rebuilds 25 = .ok (.aload_n 0, 1) := dk_42 (dk_at dksX6_rebuilds_1 3 rfl rfl)
theorem dX6_rebuilds_26 : decode cX6_rebuilds 26 = .ok (.bipush 54, 2) := dk_16 54 (dk_at dksX6_rebuilds_1 4 rfl rfl)
theorem dX6_rebuilds_28 : decode cX6_rebuilds 28 = .ok (.iload_n 1, 1) := dk_27 (dk_at dksX6_rebuilds_1 6 rfl rfl)
theorem dX6_rebuilds_29 : decode cX6_rebuilds 29 = .ok (.iadd, 1) := dk_96 (dk_at dksX6_rebuilds_1 7 rfl rfl)
theorem dX6_rebuilds_30 : decode cX6_rebuilds 30 = .ok (.aload_n 0, 1) := dk_42 (dk_at dksX6_rebuilds_1 8 rfl rfl)
theorem dX6_rebuilds_31 : decode cX6_rebuilds 31 = .ok (.iconst 3, 1) := dk_6 (dk_at dksX6_rebuilds_1 9 rfl rfl)
theorem dX6_rebuilds_32 : decode cX6_rebuilds 32 = .ok (.iload_n 1, 1) := dk_27 (dk_at dksX6_rebuilds_1 10 rfl rfl)
theorem dX6_rebuilds_33 : decode cX6_rebuilds 33 = .ok (.iadd, 1) := dk_96 (dk_at dksX6_rebuilds_1 11 rfl rfl)
theorem dX6_rebuilds_34 : decode cX6_rebuilds 34 = .ok (.iaload, 1) := dk_46 (dk_at dksX6_rebuilds_1 12 rfl rfl)
theorem dX6_rebuilds_35 : decode cX6_rebuilds 35 = .ok (.iconst 1, 1) := dk_4 (dk_at dksX6_rebuilds_1 13 rfl rfl)
theorem dX6_rebuilds_36 : decode cX6_rebuilds 36 = .ok (.if_icmp .ne 16, 3) := dk_160 0 16 (dk_at dksX6_rebuilds_1 14 rfl rfl)
theorem dX6_rebuilds_39 : decode cX6_rebuilds 39 = .ok (.aload_n 0, 1) := dk_42 (dk_at dksX6_rebuilds_1 17 rfl rfl)
theorem dX6_rebuilds_40 : decode cX6_rebuilds 40 = .ok (.aload_n 0, 1) := dk_42 (dk_at dksX6_rebuilds_1 18 rfl rfl)
theorem dX6_rebuilds_41 : decode cX6_rebuilds 41 = .ok (.bipush 15, 2) := dk_16 15 (dk_at dksX6_rebuilds_1 19 rfl rfl)
theorem dX6_rebuilds_43 : decode cX6_rebuilds 43 = .ok (.iload_n 1, 1) := dk_27 (dk_at dksX6_rebuilds_1 21 rfl rfl)
theorem dX6_rebuilds_44 : decode cX6_rebuilds 44 = .ok (.iadd, 1) := dk_96 (dk_at dksX6_rebuilds_1 22 rfl rfl)
theorem dX6_rebuilds_45 : decode cX6_rebuilds 45 = .ok (.iaload, 1) := dk_46 (dk_at dksX6_rebuilds_1 23 rfl rfl)
theorem dX6_rebuilds_46 : decode cX6_rebuilds 46 = .ok (.invokestatic 67, 3) := dk_184 0 67 (dk_at dksX6_rebuilds_2 0 rfl rfl)
theorem dX6_rebuilds_49 : decode cX6_rebuilds 49 = .ok (.goto 4, 3) := dk_167 0 4 (dk_at dksX6_rebuilds_2 3 rfl rfl)
theorem dX6_rebuilds_52 : decode cX6_rebuilds 52 = .ok (.iconst (-1), 1) := dk_2 (dk_at dksX6_rebuilds_2 6 rfl rfl)
theorem dX6_rebuilds_53 : decode cX6_rebuilds 53 = .ok (.iastore, 1) := dk_79 (dk_at dksX6_rebuilds_2 7 rfl rfl)
theorem dX6_rebuilds_54 : decode cX6_rebuilds 54 = .ok (.iinc 1 1, 3) := dk_132 1 1 (dk_at dksX6_rebuilds_2 8 rfl rfl)
theorem dX6_rebuilds_57 : decode cX6_rebuilds 57 = .ok (.goto (-38), 3) := dk_167 255 218 (dk_at dksX6_rebuilds_2 11 rfl rfl)
theorem dX6_rebuilds_60 : decode cX6_rebuilds 60 = .ok (.aload_n 0, 1) := dk_42 (dk_at dksX6_rebuilds_2 14 rfl rfl)
theorem dX6_rebuilds_61 : decode cX6_rebuilds 61 = .ok (.bipush 52, 2) := dk_16 52 (dk_at dksX6_rebuilds_2 15 rfl rfl)
theorem dX6_rebuilds_63 : decode cX6_rebuilds 63 = .ok (.aload_n 0, 1) := dk_42 (dk_at dksX6_rebuilds_2 17 rfl rfl)
theorem dX6_rebuilds_64 : decode cX6_rebuilds 64 = .ok (.bipush 51, 2) := dk_16 51 (dk_at dksX6_rebuilds_2 18 rfl rfl)
theorem dX6_rebuilds_66 : decode cX6_rebuilds 66 = .ok (.iaload, 1) := dk_46 (dk_at dksX6_rebuilds_2 20 rfl rfl)
theorem dX6_rebuilds_67 : decode cX6_rebuilds 67 = .ok (.iconst (-1), 1) := dk_2 (dk_at dksX6_rebuilds_2 21 rfl rfl)
theorem dX6_rebuilds_68 : decode cX6_rebuilds 68 = .ok (.if_icmp .ne 7, 3) := dk_160 0 7 (dk_at dksX6_rebuilds_3 0 rfl rfl)
theorem dX6_rebuilds_71 : decode cX6_rebuilds 71 = .ok (.iconst (-1), 1) := dk_2 (dk_at dksX6_rebuilds_3 3 rfl rfl)
theorem dX6_rebuilds_72 : decode cX6_rebuilds 72 = .ok (.goto 12, 3) := dk_167 0 12 (dk_at dksX6_rebuilds_3 4 rfl rfl)
theorem dX6_rebuilds_75 : decode cX6_rebuilds 75 = .ok (.aload_n 0, 1) := dk_42 (dk_at dksX6_rebuilds_3 7 rfl rfl)
theorem dX6_rebuilds_76 : decode cX6_rebuilds 76 = .ok (.bipush 54, 2) := dk_16 54 (dk_at dksX6_rebuilds_3 8 rfl rfl)
theorem dX6_rebuilds_78 : decode cX6_rebuilds 78 = .ok (.aload_n 0, 1) := dk_42 (dk_at dksX6_rebuilds_3 10 rfl rfl)
theorem dX6_rebuilds_79 : decode cX6_rebuilds 79 = .ok (.bipush 51, 2) := dk_16 51 (dk_at dksX6_rebuilds_3 11 rfl rfl)
theorem dX6_rebuilds_81 : decode cX6_rebuilds 81 = .ok (.iaload, 1) := dk_46 (dk_at dksX6_rebuilds_3 13 rfl rfl)
theorem dX6_rebuilds_82 : decode cX6_rebuilds 82 = .ok (.iadd, 1) := dk_96 (dk_at dksX6_rebuilds_3 14 rfl rfl)
theorem dX6_rebuilds_83 : decode cX6_rebuilds 83 = .ok (.iaload, 1) := dk_46 (dk_at dksX6_rebuilds_3 15 rfl rfl)
theorem dX6_rebuilds_84 : decode cX6_rebuilds 84 = .ok (.iastore, 1) := dk_79 (dk_at dksX6_rebuilds_3 16 rfl rfl)
theorem dX6_rebuilds_85 : decode cX6_rebuilds 85 = .ok (.iconst 0, 1) := dk_3 (dk_at dksX6_rebuilds_3 17 rfl rfl)
theorem dX6_rebuilds_86 : decode cX6_rebuilds 86 = .ok (.istore_n 1, 1) := dk_60 (dk_at dksX6_rebuilds_3 18 rfl rfl)
theorem dX6_rebuilds_87 : decode cX6_rebuilds 87 = .ok (.iload_n 1, 1) := dk_27 (dk_at dksX6_rebuilds_3 19 rfl rfl)
theorem dX6_rebuilds_88 : decode cX6_rebuilds 88 = .ok (.bipush 12, 2) := dk_16 12 (dk_at dksX6_rebuilds_3 20 rfl rfl)
theorem dX6_rebuilds_90 : decode cX6_rebuilds 90 = .ok (.if_icmp .ge 40, 3) := dk_162 0 40 (dk_at dksX6_rebuilds_4 0 rfl rfl)
theorem dX6_rebuilds_93 : decode cX6_rebuilds 93 = .ok (.aload_n 0, 1) := dk_42 (dk_at dksX6_rebuilds_4 3 rfl rfl)
theorem dX6_rebuilds_94 : decode cX6_rebuilds 94 = .ok (.bipush 66, 2) := dk_16 66 (dk_at dksX6_rebuilds_4 4 rfl rfl)
theorem dX6_rebuilds_96 : decode cX6_rebuilds 96 = .ok (.iload_n 1, 1) := dk_27 (dk_at dksX6_rebuilds_4 6 rfl rfl)
theorem dX6_rebuilds_97 : decode cX6_rebuilds 97 = .ok (.iadd, 1) := dk_96 (dk_at dksX6_rebuilds_4 7 rfl rfl)
theorem dX6_rebuilds_98 : decode cX6_rebuilds 98 = .ok (.aload_n 0, 1) := dk_42 (dk_at dksX6_rebuilds_4 8 rfl rfl)
theorem dX6_rebuilds_99 : decode cX6_rebuilds 99 = .ok (.bipush 54, 2) := dk_16 54 (dk_at dksX6_rebuilds_4 9 rfl rfl)
theorem dX6_rebuilds_101 : decode cX6_rebuilds 101 = .ok (.iload_n 1, 1) := dk_27 (dk_at dksX6_rebuilds_4 11 rfl rfl)
theorem dX6_rebuilds_102 : decode cX6_rebuilds 102 = .ok (.iadd, 1) := dk_96 (dk_at dksX6_rebuilds_4 12 rfl rfl)
theorem dX6_rebuilds_103 : decode cX6_rebuilds 103 = .ok (.iaload, 1) := dk_46 (dk_at dksX6_rebuilds_4 13 rfl rfl)
theorem dX6_rebuilds_104 : decode cX6_rebuilds 104 = .ok (.iconst (-1), 1) := dk_2 (dk_at dksX6_rebuilds_4 14 rfl rfl)
theorem dX6_rebuilds_105 : decode cX6_rebuilds 105 = .ok (.if_icmp .ne 7, 3) := dk_160 0 7 (dk_at dksX6_rebuilds_4 15 rfl rfl)
theorem dX6_rebuilds_108 : decode cX6_rebuilds 108 = .ok (.iconst (-1), 1) := dk_2 (dk_at dksX6_rebuilds_4 18 rfl rfl)
theorem dX6_rebuilds_109 : decode cX6_rebuilds 109 = .ok (.goto 14, 3) := dk_167 0 14 (dk_at dksX6_rebuilds_4 19 rfl rfl)
theorem dX6_rebuilds_112 : decode cX6_rebuilds 112 = .ok (.aload_n 0, 1) := dk_42 (dk_at dksX6_rebuilds_4 22 rfl rfl)
theorem dX6_rebuilds_113 : decode cX6_rebuilds 113 = .ok (.bipush 54, 2) := dk_16 54 (dk_at dksX6_rebuilds_5 0 rfl rfl)
theorem dX6_rebuilds_115 : decode cX6_rebuilds 115 = .ok (.aload_n 0, 1) := dk_42 (dk_at dksX6_rebuilds_5 2 rfl rfl)
theorem dX6_rebuilds_116 : decode cX6_rebuilds 116 = .ok (.bipush 54, 2) := dk_16 54 (dk_at dksX6_rebuilds_5 3 rfl rfl)
theorem dX6_rebuilds_118 : decode cX6_rebuilds 118 = .ok (.iload_n 1, 1) := dk_27 (dk_at dksX6_rebuilds_5 5 rfl rfl)
theorem dX6_rebuilds_119 : decode cX6_rebuilds 119 = .ok (.iadd, 1) := dk_96 (dk_at dksX6_rebuilds_5 6 rfl rfl)
theorem dX6_rebuilds_120 : decode cX6_rebuilds 120 = .ok (.iaload, 1) := dk_46 (dk_at dksX6_rebuilds_5 7 rfl rfl)
theorem dX6_rebuilds_121 : decode cX6_rebuilds 121 = .ok (.iadd, 1) := dk_96 (dk_at dksX6_rebuilds_5 8 rfl rfl)
theorem dX6_rebuilds_122 : decode cX6_rebuilds 122 = .ok (.iaload, 1) := dk_46 (dk_at dksX6_rebuilds_5 9 rfl rfl)
theorem dX6_rebuilds_123 : decode cX6_rebuilds 123 = .ok (.iastore, 1) := dk_79 (dk_at dksX6_rebuilds_5 10 rfl rfl)
theorem dX6_rebuilds_124 : decode cX6_rebuilds 124 = .ok (.iinc 1 1, 3) := dk_132 1 1 (dk_at dksX6_rebuilds_5 11 rfl rfl)
theorem dX6_rebuilds_127 : decode cX6_rebuilds 127 = .ok (.goto (-40), 3) := dk_167 255 216 (dk_at dksX6_rebuilds_5 14 rfl rfl)
theorem dX6_rebuilds_130 : decode cX6_rebuilds 130 = .ok (.return_, 1) := dk_177 (dk_at dksX6_rebuilds_5 17 rfl rfl)
abbrev cX6_innBehind : ByteArray := prog_12_method_12_code
def yX6_innBehind : MethodName := ⟨RX6, "innBehind", "([II)I"⟩
def dkwX6_innBehind_3 : List UInt8 := [167, 255, 190, 28, 172]
abbrev dktX6_innBehind_3 : List UInt8 := dkwX6_innBehind_3 ++ []
def dkwX6_innBehind_2 : List UInt8 := [16, 15, 29, 96, 46, 42, 16, 15, 28, 96, 46, 162, 0, 7, 29, 167, 0, 4, 28, 61, 132, 3, 1]
abbrev dktX6_innBehind_2 : List UInt8 := dkwX6_innBehind_2 ++ dktX6_innBehind_3
def dkwX6_innBehind_1 : List UInt8 := [46, 27, 164, 0, 7, 4, 167, 0, 4, 3, 54, 4, 21, 4, 153, 0, 27, 28, 2, 159, 0, 18, 42]
abbrev dktX6_innBehind_1 : List UInt8 := dkwX6_innBehind_1 ++ dktX6_innBehind_2
def dkwX6_innBehind_0 : List UInt8 := [2, 61, 3, 62, 29, 16, 12, 162, 0, 66, 42, 6, 29, 96, 46, 4, 160, 0, 17, 42, 16, 15, 29, 96]
abbrev dktX6_innBehind_0 : List UInt8 := dkwX6_innBehind_0 ++ dktX6_innBehind_1
theorem dksX6_innBehind_0 : cX6_innBehind.data.toList.drop 0 = dktX6_innBehind_0 := by decide +kernel
theorem dksX6_innBehind_1 : cX6_innBehind.data.toList.drop 24 = dktX6_innBehind_1 := dk_seg dksX6_innBehind_0 24 rfl rfl
theorem dksX6_innBehind_2 : cX6_innBehind.data.toList.drop 47 = dktX6_innBehind_2 := dk_seg dksX6_innBehind_1 23 rfl rfl
theorem dksX6_innBehind_3 : cX6_innBehind.data.toList.drop 70 = dktX6_innBehind_3 := dk_seg dksX6_innBehind_2 23 rfl rfl
theorem dX6_innBehind_0 : decode cX6_innBehind 0 = .ok (.iconst (-1), 1) := dk_2 (dk_at dksX6_innBehind_0 0 rfl rfl)
theorem dX6_innBehind_1 : decode cX6_innBehind 1 = .ok (.istore_n 2, 1) := dk_61 (dk_at dksX6_innBehind_0 1 rfl rfl)
theorem dX6_innBehind_2 : decode cX6_innBehind 2 = .ok (.iconst 0, 1) := dk_3 (dk_at dksX6_innBehind_0 2 rfl rfl)
theorem dX6_innBehind_3 : decode cX6_innBehind 3 = .ok (.istore_n 3, 1) := dk_62 (dk_at dksX6_innBehind_0 3 rfl rfl)
theorem dX6_innBehind_4 : decode cX6_innBehind 4 = .ok (.iload_n 3, 1) := dk_29 (dk_at dksX6_innBehind_0 4 rfl rfl)
theorem dX6_innBehind_5 : decode cX6_innBehind 5 = .ok (.bipush 12, 2) := dk_16 12 (dk_at dksX6_innBehind_0 5 rfl rfl)
theorem dX6_innBehind_7 : decode cX6_innBehind 7 = .ok (.if_icmp .ge 66, 3) := dk_162 0 66 (dk_at dksX6_innBehind_0 7 rfl rfl)
theorem dX6_innBehind_10 : decode cX6_innBehind 10 = .ok (.aload_n 0, 1) := dk_42 (dk_at dksX6_innBehind_0 10 rfl rfl)
theorem dX6_innBehind_11 : decode cX6_innBehind 11 = .ok (.iconst 3, 1) := dk_6 (dk_at dksX6_innBehind_0 11 rfl rfl)
theorem dX6_innBehind_12 : decode cX6_innBehind 12 = .ok (.iload_n 3, 1) := dk_29 (dk_at dksX6_innBehind_0 12 rfl rfl)
theorem dX6_innBehind_13 : decode cX6_innBehind 13 = .ok (.iadd, 1) := dk_96 (dk_at dksX6_innBehind_0 13 rfl rfl)
theorem dX6_innBehind_14 : decode cX6_innBehind 14 = .ok (.iaload, 1) := dk_46 (dk_at dksX6_innBehind_0 14 rfl rfl)
theorem dX6_innBehind_15 : decode cX6_innBehind 15 = .ok (.iconst 1, 1) := dk_4 (dk_at dksX6_innBehind_0 15 rfl rfl)
theorem dX6_innBehind_16 : decode cX6_innBehind 16 = .ok (.if_icmp .ne 17, 3) := dk_160 0 17 (dk_at dksX6_innBehind_0 16 rfl rfl)
theorem dX6_innBehind_19 : decode cX6_innBehind 19 = .ok (.aload_n 0, 1) := dk_42 (dk_at dksX6_innBehind_0 19 rfl rfl)
theorem dX6_innBehind_20 : decode cX6_innBehind 20 = .ok (.bipush 15, 2) := dk_16 15 (dk_at dksX6_innBehind_0 20 rfl rfl)
theorem dX6_innBehind_22 : decode cX6_innBehind 22 = .ok (.iload_n 3, 1) := dk_29 (dk_at dksX6_innBehind_0 22 rfl rfl)
theorem dX6_innBehind_23 : decode cX6_innBehind 23 = .ok (.iadd, 1) := dk_96 (dk_at dksX6_innBehind_0 23 rfl rfl)
theorem dX6_innBehind_24 : decode cX6_innBehind 24 = .ok (.iaload, 1) := dk_46 (dk_at dksX6_innBehind_1 0 rfl rfl)
theorem dX6_innBehind_25 : decode cX6_innBehind 25 = .ok (.iload_n 1, 1) := dk_27 (dk_at dksX6_innBehind_1 1 rfl rfl)
theorem dX6_innBehind_26 : decode cX6_innBehind 26 = .ok (.if_icmp .le 7, 3) := dk_164 0 7 (dk_at dksX6_innBehind_1 2 rfl rfl)
theorem dX6_innBehind_29 : decode cX6_innBehind 29 = .ok (.iconst 1, 1) := dk_4 (dk_at dksX6_innBehind_1 5 rfl rfl)
theorem dX6_innBehind_30 : decode cX6_innBehind 30 = .ok (.goto 4, 3) := dk_167 0 4 (dk_at dksX6_innBehind_1 6 rfl rfl)
theorem dX6_innBehind_33 : decode cX6_innBehind 33 = .ok (.iconst 0, 1) := dk_3 (dk_at dksX6_innBehind_1 9 rfl rfl)
theorem dX6_innBehind_34 : decode cX6_innBehind 34 = .ok (.istore 4, 2) := dk_54 4 (dk_at dksX6_innBehind_1 10 rfl rfl)
theorem dX6_innBehind_36 : decode cX6_innBehind 36 = .ok (.iload 4, 2) := dk_21 4 (dk_at dksX6_innBehind_1 12 rfl rfl)
theorem dX6_innBehind_38 : decode cX6_innBehind 38 = .ok (.ifCond .eq 27, 3) := dk_153 0 27 (dk_at dksX6_innBehind_1 14 rfl rfl)
theorem dX6_innBehind_41 : decode cX6_innBehind 41 = .ok (.iload_n 2, 1) := dk_28 (dk_at dksX6_innBehind_1 17 rfl rfl)
theorem dX6_innBehind_42 : decode cX6_innBehind 42 = .ok (.iconst (-1), 1) := dk_2 (dk_at dksX6_innBehind_1 18 rfl rfl)
theorem dX6_innBehind_43 : decode cX6_innBehind 43 = .ok (.if_icmp .eq 18, 3) := dk_159 0 18 (dk_at dksX6_innBehind_1 19 rfl rfl)
theorem dX6_innBehind_46 : decode cX6_innBehind 46 = .ok (.aload_n 0, 1) := dk_42 (dk_at dksX6_innBehind_1 22 rfl rfl)
theorem dX6_innBehind_47 : decode cX6_innBehind 47 = .ok (.bipush 15, 2) := dk_16 15 (dk_at dksX6_innBehind_2 0 rfl rfl)
theorem dX6_innBehind_49 : decode cX6_innBehind 49 = .ok (.iload_n 3, 1) := dk_29 (dk_at dksX6_innBehind_2 2 rfl rfl)
theorem dX6_innBehind_50 : decode cX6_innBehind 50 = .ok (.iadd, 1) := dk_96 (dk_at dksX6_innBehind_2 3 rfl rfl)
theorem dX6_innBehind_51 : decode cX6_innBehind 51 = .ok (.iaload, 1) := dk_46 (dk_at dksX6_innBehind_2 4 rfl rfl)
theorem dX6_innBehind_52 : decode cX6_innBehind 52 = .ok (.aload_n 0, 1) := dk_42 (dk_at dksX6_innBehind_2 5 rfl rfl)
theorem dX6_innBehind_53 : decode cX6_innBehind 53 = .ok (.bipush 15, 2) := dk_16 15 (dk_at dksX6_innBehind_2 6 rfl rfl)
theorem dX6_innBehind_55 : decode cX6_innBehind 55 = .ok (.iload_n 2, 1) := dk_28 (dk_at dksX6_innBehind_2 8 rfl rfl)
theorem dX6_innBehind_56 : decode cX6_innBehind 56 = .ok (.iadd, 1) := dk_96 (dk_at dksX6_innBehind_2 9 rfl rfl)
theorem dX6_innBehind_57 : decode cX6_innBehind 57 = .ok (.iaload, 1) := dk_46 (dk_at dksX6_innBehind_2 10 rfl rfl)
theorem dX6_innBehind_58 : decode cX6_innBehind 58 = .ok (.if_icmp .ge 7, 3) := dk_162 0 7 (dk_at dksX6_innBehind_2 11 rfl rfl)
theorem dX6_innBehind_61 : decode cX6_innBehind 61 = .ok (.iload_n 3, 1) := dk_29 (dk_at dksX6_innBehind_2 14 rfl rfl)
theorem dX6_innBehind_62 : decode cX6_innBehind 62 = .ok (.goto 4, 3) := dk_167 0 4 (dk_at dksX6_innBehind_2 15 rfl rfl)
theorem dX6_innBehind_65 : decode cX6_innBehind 65 = .ok (.iload_n 2, 1) := dk_28 (dk_at dksX6_innBehind_2 18 rfl rfl)
theorem dX6_innBehind_66 : decode cX6_innBehind 66 = .ok (.istore_n 2, 1) := dk_61 (dk_at dksX6_innBehind_2 19 rfl rfl)
theorem dX6_innBehind_67 : decode cX6_innBehind 67 = .ok (.iinc 3 1, 3) := dk_132 3 1 (dk_at dksX6_innBehind_2 20 rfl rfl)
theorem dX6_innBehind_70 : decode cX6_innBehind 70 = .ok (.goto (-66), 3) := dk_167 255 190 (dk_at dksX6_innBehind_3 0 rfl rfl)
theorem dX6_innBehind_73 : decode cX6_innBehind 73 = .ok (.iload_n 2, 1) := dk_28 (dk_at dksX6_innBehind_3 3 rfl rfl)
theorem dX6_innBehind_74 : decode cX6_innBehind 74 = .ok (.ireturn, 1) := dk_172 (dk_at dksX6_innBehind_3 4 rfl rfl)
abbrev cX6_innsOf : ByteArray := prog_12_method_10_code
def yX6_innsOf : MethodName := ⟨RX6, "innsOf", "([I)I"⟩
def dkwX6_innsOf_1 : List UInt8 := [27, 172]
abbrev dktX6_innsOf_1 : List UInt8 := dkwX6_innsOf_1 ++ []
def dkwX6_innsOf_0 : List UInt8 := [3, 60, 3, 61, 28, 16, 12, 162, 0, 17, 27, 42, 6, 28, 96, 46, 96, 60, 132, 2, 1, 167, 255, 239]
abbrev dktX6_innsOf_0 : List UInt8 := dkwX6_innsOf_0 ++ dktX6_innsOf_1
theorem dksX6_innsOf_0 : cX6_innsOf.data.toList.drop 0 = dktX6_innsOf_0 := by decide +kernel
theorem dksX6_innsOf_1 : cX6_innsOf.data.toList.drop 24 = dktX6_innsOf_1 := dk_seg dksX6_innsOf_0 24 rfl rfl
theorem dX6_innsOf_0 : decode cX6_innsOf 0 = .ok (.iconst 0, 1) := dk_3 (dk_at dksX6_innsOf_0 0 rfl rfl)
theorem dX6_innsOf_1 : decode cX6_innsOf 1 = .ok (.istore_n 1, 1) := dk_60 (dk_at dksX6_innsOf_0 1 rfl rfl)
theorem dX6_innsOf_2 : decode cX6_innsOf 2 = .ok (.iconst 0, 1) := dk_3 (dk_at dksX6_innsOf_0 2 rfl rfl)
theorem dX6_innsOf_3 : decode cX6_innsOf 3 = .ok (.istore_n 2, 1) := dk_61 (dk_at dksX6_innsOf_0 3 rfl rfl)
theorem dX6_innsOf_4 : decode cX6_innsOf 4 = .ok (.iload_n 2, 1) := dk_28 (dk_at dksX6_innsOf_0 4 rfl rfl)
theorem dX6_innsOf_5 : decode cX6_innsOf 5 = .ok (.bipush 12, 2) := dk_16 12 (dk_at dksX6_innsOf_0 5 rfl rfl)
theorem dX6_innsOf_7 : decode cX6_innsOf 7 = .ok (.if_icmp .ge 17, 3) := dk_162 0 17 (dk_at dksX6_innsOf_0 7 rfl rfl)
theorem dX6_innsOf_10 : decode cX6_innsOf 10 = .ok (.iload_n 1, 1) := dk_27 (dk_at dksX6_innsOf_0 10 rfl rfl)
theorem dX6_innsOf_11 : decode cX6_innsOf 11 = .ok (.aload_n 0, 1) := dk_42 (dk_at dksX6_innsOf_0 11 rfl rfl)
theorem dX6_innsOf_12 : decode cX6_innsOf 12 = .ok (.iconst 3, 1) := dk_6 (dk_at dksX6_innsOf_0 12 rfl rfl)
theorem dX6_innsOf_13 : decode cX6_innsOf 13 = .ok (.iload_n 2, 1) := dk_28 (dk_at dksX6_innsOf_0 13 rfl rfl)
theorem dX6_innsOf_14 : decode cX6_innsOf 14 = .ok (.iadd, 1) := dk_96 (dk_at dksX6_innsOf_0 14 rfl rfl)
theorem dX6_innsOf_15 : decode cX6_innsOf 15 = .ok (.iaload, 1) := dk_46 (dk_at dksX6_innsOf_0 15 rfl rfl)
theorem dX6_innsOf_16 : decode cX6_innsOf 16 = .ok (.iadd, 1) := dk_96 (dk_at dksX6_innsOf_0 16 rfl rfl)
theorem dX6_innsOf_17 : decode cX6_innsOf 17 = .ok (.istore_n 1, 1) := dk_60 (dk_at dksX6_innsOf_0 17 rfl rfl)
theorem dX6_innsOf_18 : decode cX6_innsOf 18 = .ok (.iinc 2 1, 3) := dk_132 2 1 (dk_at dksX6_innsOf_0 18 rfl rfl)
theorem dX6_innsOf_21 : decode cX6_innsOf 21 = .ok (.goto (-17), 3) := dk_167 255 239 (dk_at dksX6_innsOf_0 21 rfl rfl)
theorem dX6_innsOf_24 : decode cX6_innsOf 24 = .ok (.iload_n 1, 1) := dk_27 (dk_at dksX6_innsOf_1 0 rfl rfl)
theorem dX6_innsOf_25 : decode cX6_innsOf 25 = .ok (.ireturn, 1) := dk_172 (dk_at dksX6_innsOf_1 1 rfl rfl)
abbrev cX6_append : ByteArray := prog_12_method_27_code
def yX6_append : MethodName := ⟨RX6, "append", "(IIIII)I"⟩
def dkwX6_append_3 : List UInt8 := [182, 0, 139, 42, 180, 0, 130, 172]
abbrev dktX6_append_3 : List UInt8 := dkwX6_append_3 ++ []
def dkwX6_append_2 : List UInt8 := [42, 27, 182, 0, 139, 42, 28, 182, 0, 139, 42, 29, 182, 0, 139, 42, 21, 4, 182, 0, 139, 42, 21, 5]
abbrev dktX6_append_2 : List UInt8 := dkwX6_append_2 ++ dktX6_append_3
def dkwX6_append_1 : List UInt8 := [21, 4, 184, 0, 133, 96, 21, 5, 184, 0, 133, 96, 17, 1, 244, 164, 0, 9, 42, 4, 182, 0, 136, 172]
abbrev dktX6_append_1 : List UInt8 := dkwX6_append_1 ++ dktX6_append_2
def dkwX6_append_0 : List UInt8 := [42, 3, 181, 0, 3, 42, 180, 0, 130, 27, 184, 0, 133, 96, 28, 184, 0, 133, 96, 29, 184, 0, 133, 96]
abbrev dktX6_append_0 : List UInt8 := dkwX6_append_0 ++ dktX6_append_1
theorem dksX6_append_0 : cX6_append.data.toList.drop 0 = dktX6_append_0 := by decide +kernel
theorem dksX6_append_1 : cX6_append.data.toList.drop 24 = dktX6_append_1 := dk_seg dksX6_append_0 24 rfl rfl
theorem dksX6_append_2 : cX6_append.data.toList.drop 48 = dktX6_append_2 := dk_seg dksX6_append_1 24 rfl rfl
theorem dksX6_append_3 : cX6_append.data.toList.drop 72 = dktX6_append_3 := dk_seg dksX6_append_2 24 rfl rfl
theorem dX6_append_0 : decode cX6_append 0 = .ok (.aload_n 0, 1) := dk_42 (dk_at dksX6_append_0 0 rfl rfl)
theorem dX6_append_1 : decode cX6_append 1 = .ok (.iconst 0, 1) := dk_3 (dk_at dksX6_append_0 1 rfl rfl)
theorem dX6_append_2 : decode cX6_append 2 = .ok (.putfield 3, 3) := dk_181 0 3 (dk_at dksX6_append_0 2 rfl rfl)
theorem dX6_append_5 : decode cX6_append 5 = .ok (.aload_n 0, 1) := dk_42 (dk_at dksX6_append_0 5 rfl rfl)
theorem dX6_append_6 : decode cX6_append 6 = .ok (.getfield 130, 3) := dk_180 0 130 (dk_at dksX6_append_0 6 rfl rfl)
theorem dX6_append_9 : decode cX6_append 9 = .ok (.iload_n 1, 1) := dk_27 (dk_at dksX6_append_0 9 rfl rfl)
theorem dX6_append_10 : decode cX6_append 10 = .ok (.invokestatic 133, 3) := dk_184 0 133 (dk_at dksX6_append_0 10 rfl rfl)
theorem dX6_append_13 : decode cX6_append 13 = .ok (.iadd, 1) := dk_96 (dk_at dksX6_append_0 13 rfl rfl)
theorem dX6_append_14 : decode cX6_append 14 = .ok (.iload_n 2, 1) := dk_28 (dk_at dksX6_append_0 14 rfl rfl)
theorem dX6_append_15 : decode cX6_append 15 = .ok (.invokestatic 133, 3) := dk_184 0 133 (dk_at dksX6_append_0 15 rfl rfl)
theorem dX6_append_18 : decode cX6_append 18 = .ok (.iadd, 1) := dk_96 (dk_at dksX6_append_0 18 rfl rfl)
theorem dX6_append_19 : decode cX6_append 19 = .ok (.iload_n 3, 1) := dk_29 (dk_at dksX6_append_0 19 rfl rfl)
theorem dX6_append_20 : decode cX6_append 20 = .ok (.invokestatic 133, 3) := dk_184 0 133 (dk_at dksX6_append_0 20 rfl rfl)
theorem dX6_append_23 : decode cX6_append 23 = .ok (.iadd, 1) := dk_96 (dk_at dksX6_append_0 23 rfl rfl)
theorem dX6_append_24 : decode cX6_append 24 = .ok (.iload 4, 2) := dk_21 4 (dk_at dksX6_append_1 0 rfl rfl)
theorem dX6_append_26 : decode cX6_append 26 = .ok (.invokestatic 133, 3) := dk_184 0 133 (dk_at dksX6_append_1 2 rfl rfl)
theorem dX6_append_29 : decode cX6_append 29 = .ok (.iadd, 1) := dk_96 (dk_at dksX6_append_1 5 rfl rfl)
theorem dX6_append_30 : decode cX6_append 30 = .ok (.iload 5, 2) := dk_21 5 (dk_at dksX6_append_1 6 rfl rfl)
theorem dX6_append_32 : decode cX6_append 32 = .ok (.invokestatic 133, 3) := dk_184 0 133 (dk_at dksX6_append_1 8 rfl rfl)
theorem dX6_append_35 : decode cX6_append 35 = .ok (.iadd, 1) := dk_96 (dk_at dksX6_append_1 11 rfl rfl)
theorem dX6_append_36 : decode cX6_append 36 = .ok (.sipush 500, 3) := dk_17 1 244 (dk_at dksX6_append_1 12 rfl rfl)
theorem dX6_append_39 : decode cX6_append 39 = .ok (.if_icmp .le 9, 3) := dk_164 0 9 (dk_at dksX6_append_1 15 rfl rfl)
theorem dX6_append_42 : decode cX6_append 42 = .ok (.aload_n 0, 1) := dk_42 (dk_at dksX6_append_1 18 rfl rfl)
theorem dX6_append_43 : decode cX6_append 43 = .ok (.iconst 1, 1) := dk_4 (dk_at dksX6_append_1 19 rfl rfl)
theorem dX6_append_44 : decode cX6_append 44 = .ok (.invokevirtual 136, 3) := dk_182 0 136 (dk_at dksX6_append_1 20 rfl rfl)
theorem dX6_append_47 : decode cX6_append 47 = .ok (.ireturn, 1) := dk_172 (dk_at dksX6_append_1 23 rfl rfl)
theorem dX6_append_48 : decode cX6_append 48 = .ok (.aload_n 0, 1) := dk_42 (dk_at dksX6_append_2 0 rfl rfl)
theorem dX6_append_49 : decode cX6_append 49 = .ok (.iload_n 1, 1) := dk_27 (dk_at dksX6_append_2 1 rfl rfl)
theorem dX6_append_50 : decode cX6_append 50 = .ok (.invokevirtual 139, 3) := dk_182 0 139 (dk_at dksX6_append_2 2 rfl rfl)
theorem dX6_append_53 : decode cX6_append 53 = .ok (.aload_n 0, 1) := dk_42 (dk_at dksX6_append_2 5 rfl rfl)
theorem dX6_append_54 : decode cX6_append 54 = .ok (.iload_n 2, 1) := dk_28 (dk_at dksX6_append_2 6 rfl rfl)
theorem dX6_append_55 : decode cX6_append 55 = .ok (.invokevirtual 139, 3) := dk_182 0 139 (dk_at dksX6_append_2 7 rfl rfl)
theorem dX6_append_58 : decode cX6_append 58 = .ok (.aload_n 0, 1) := dk_42 (dk_at dksX6_append_2 10 rfl rfl)
theorem dX6_append_59 : decode cX6_append 59 = .ok (.iload_n 3, 1) := dk_29 (dk_at dksX6_append_2 11 rfl rfl)
theorem dX6_append_60 : decode cX6_append 60 = .ok (.invokevirtual 139, 3) := dk_182 0 139 (dk_at dksX6_append_2 12 rfl rfl)
theorem dX6_append_63 : decode cX6_append 63 = .ok (.aload_n 0, 1) := dk_42 (dk_at dksX6_append_2 15 rfl rfl)
theorem dX6_append_64 : decode cX6_append 64 = .ok (.iload 4, 2) := dk_21 4 (dk_at dksX6_append_2 16 rfl rfl)
theorem dX6_append_66 : decode cX6_append 66 = .ok (.invokevirtual 139, 3) := dk_182 0 139 (dk_at dksX6_append_2 18 rfl rfl)
theorem dX6_append_69 : decode cX6_append 69 = .ok (.aload_n 0, 1) := dk_42 (dk_at dksX6_append_2 21 rfl rfl)
theorem dX6_append_70 : decode cX6_append 70 = .ok (.iload 5, 2) := dk_21 5 (dk_at dksX6_append_2 22 rfl rfl)
theorem dX6_append_72 : decode cX6_append 72 = .ok (.invokevirtual 139, 3) := dk_182 0 139 (dk_at dksX6_append_3 0 rfl rfl)
theorem dX6_append_75 : decode cX6_append 75 = .ok (.aload_n 0, 1) := dk_42 (dk_at dksX6_append_3 3 rfl rfl)
theorem dX6_append_76 : decode cX6_append 76 = .ok (.getfield 130, 3) := dk_180 0 130 (dk_at dksX6_append_3 4 rfl rfl)
theorem dX6_append_79 : decode cX6_append 79 = .ok (.ireturn, 1) := dk_172 (dk_at dksX6_append_3 7 rfl rfl)
abbrev cX6_bytesOf : ByteArray := prog_12_method_25_code
def yX6_bytesOf : MethodName := ⟨RX6, "bytesOf", "(I)I"⟩
def dkwX6_bytesOf_1 : List UInt8 := [167, 0, 4, 4, 96, 60, 132, 2, 1, 167, 255, 227, 27, 172]
abbrev dktX6_bytesOf_1 : List UInt8 := dkwX6_bytesOf_1 ++ []
def dkwX6_bytesOf_0 : List UInt8 := [3, 60, 3, 61, 28, 7, 162, 0, 30, 27, 26, 16, 8, 28, 104, 122, 17, 0, 255, 126, 154, 0, 7, 3]
abbrev dktX6_bytesOf_0 : List UInt8 := dkwX6_bytesOf_0 ++ dktX6_bytesOf_1
theorem dksX6_bytesOf_0 : cX6_bytesOf.data.toList.drop 0 = dktX6_bytesOf_0 := by decide +kernel
theorem dksX6_bytesOf_1 : cX6_bytesOf.data.toList.drop 24 = dktX6_bytesOf_1 := dk_seg dksX6_bytesOf_0 24 rfl rfl
theorem dX6_bytesOf_0 : decode cX6_bytesOf 0 = .ok (.iconst 0, 1) := dk_3 (dk_at dksX6_bytesOf_0 0 rfl rfl)
theorem dX6_bytesOf_1 : decode cX6_bytesOf 1 = .ok (.istore_n 1, 1) := dk_60 (dk_at dksX6_bytesOf_0 1 rfl rfl)
theorem dX6_bytesOf_2 : decode cX6_bytesOf 2 = .ok (.iconst 0, 1) := dk_3 (dk_at dksX6_bytesOf_0 2 rfl rfl)
theorem dX6_bytesOf_3 : decode cX6_bytesOf 3 = .ok (.istore_n 2, 1) := dk_61 (dk_at dksX6_bytesOf_0 3 rfl rfl)
theorem dX6_bytesOf_4 : decode cX6_bytesOf 4 = .ok (.iload_n 2, 1) := dk_28 (dk_at dksX6_bytesOf_0 4 rfl rfl)
theorem dX6_bytesOf_5 : decode cX6_bytesOf 5 = .ok (.iconst 4, 1) := dk_7 (dk_at dksX6_bytesOf_0 5 rfl rfl)
theorem dX6_bytesOf_6 : decode cX6_bytesOf 6 = .ok (.if_icmp .ge 30, 3) := dk_162 0 30 (dk_at dksX6_bytesOf_0 6 rfl rfl)
theorem dX6_bytesOf_9 : decode cX6_bytesOf 9 = .ok (.iload_n 1, 1) := dk_27 (dk_at dksX6_bytesOf_0 9 rfl rfl)
theorem dX6_bytesOf_10 : decode cX6_bytesOf 10 = .ok (.iload_n 0, 1) := dk_26 (dk_at dksX6_bytesOf_0 10 rfl rfl)
theorem dX6_bytesOf_11 : decode cX6_bytesOf 11 = .ok (.bipush 8, 2) := dk_16 8 (dk_at dksX6_bytesOf_0 11 rfl rfl)
theorem dX6_bytesOf_13 : decode cX6_bytesOf 13 = .ok (.iload_n 2, 1) := dk_28 (dk_at dksX6_bytesOf_0 13 rfl rfl)
theorem dX6_bytesOf_14 : decode cX6_bytesOf 14 = .ok (.imul, 1) := dk_104 (dk_at dksX6_bytesOf_0 14 rfl rfl)
theorem dX6_bytesOf_15 : decode cX6_bytesOf 15 = .ok (.ishr, 1) := dk_122 (dk_at dksX6_bytesOf_0 15 rfl rfl)
theorem dX6_bytesOf_16 : decode cX6_bytesOf 16 = .ok (.sipush 255, 3) := dk_17 0 255 (dk_at dksX6_bytesOf_0 16 rfl rfl)
theorem dX6_bytesOf_19 : decode cX6_bytesOf 19 = .ok (.iand, 1) := dk_126 (dk_at dksX6_bytesOf_0 19 rfl rfl)
theorem dX6_bytesOf_20 : decode cX6_bytesOf 20 = .ok (.ifCond .ne 7, 3) := dk_154 0 7 (dk_at dksX6_bytesOf_0 20 rfl rfl)
theorem dX6_bytesOf_23 : decode cX6_bytesOf 23 = .ok (.iconst 0, 1) := dk_3 (dk_at dksX6_bytesOf_0 23 rfl rfl)
theorem dX6_bytesOf_24 : decode cX6_bytesOf 24 = .ok (.goto 4, 3) := dk_167 0 4 (dk_at dksX6_bytesOf_1 0 rfl rfl)
theorem dX6_bytesOf_27 : decode cX6_bytesOf 27 = .ok (.iconst 1, 1) := dk_4 (dk_at dksX6_bytesOf_1 3 rfl rfl)
theorem dX6_bytesOf_28 : decode cX6_bytesOf 28 = .ok (.iadd, 1) := dk_96 (dk_at dksX6_bytesOf_1 4 rfl rfl)
theorem dX6_bytesOf_29 : decode cX6_bytesOf 29 = .ok (.istore_n 1, 1) := dk_60 (dk_at dksX6_bytesOf_1 5 rfl rfl)
theorem dX6_bytesOf_30 : decode cX6_bytesOf 30 = .ok (.iinc 2 1, 3) := dk_132 2 1 (dk_at dksX6_bytesOf_1 6 rfl rfl)
theorem dX6_bytesOf_33 : decode cX6_bytesOf 33 = .ok (.goto (-29), 3) := dk_167 255 227 (dk_at dksX6_bytesOf_1 9 rfl rfl)
theorem dX6_bytesOf_36 : decode cX6_bytesOf 36 = .ok (.iload_n 1, 1) := dk_27 (dk_at dksX6_bytesOf_1 12 rfl rfl)
theorem dX6_bytesOf_37 : decode cX6_bytesOf 37 = .ok (.ireturn, 1) := dk_172 (dk_at dksX6_bytesOf_1 13 rfl rfl)
abbrev cX6_fails : ByteArray := prog_12_method_2_code
def yX6_fails : MethodName := ⟨RX6, "fails", "(I)I"⟩
def dkwX6_fails_0 : List UInt8 := [42, 27, 181, 0, 3, 3, 172]
abbrev dktX6_fails_0 : List UInt8 := dkwX6_fails_0 ++ []
theorem dksX6_fails_0 : cX6_fails.data.toList.drop 0 = dktX6_fails_0 := by decide +kernel
theorem dX6_fails_0 : decode cX6_fails 0 = .ok (.aload_n 0, 1) := dk_42 (dk_at dksX6_fails_0 0 rfl rfl)
theorem dX6_fails_1 : decode cX6_fails 1 = .ok (.iload_n 1, 1) := dk_27 (dk_at dksX6_fails_0 1 rfl rfl)
theorem dX6_fails_2 : decode cX6_fails 2 = .ok (.putfield 3, 3) := dk_181 0 3 (dk_at dksX6_fails_0 2 rfl rfl)
theorem dX6_fails_5 : decode cX6_fails 5 = .ok (.iconst 0, 1) := dk_3 (dk_at dksX6_fails_0 5 rfl rfl)
theorem dX6_fails_6 : decode cX6_fails 6 = .ok (.ireturn, 1) := dk_172 (dk_at dksX6_fails_0 6 rfl rfl)
abbrev cX6_brings : ByteArray := prog_12_method_26_code
def yX6_brings : MethodName := ⟨RX6, "brings", "(I)V"⟩
def dkwX6_brings_1 : List UInt8 := [180, 0, 130, 29, 145, 84, 42, 89, 180, 0, 130, 4, 96, 181, 0, 130, 132, 2, 248, 167, 255, 216, 177]
abbrev dktX6_brings_1 : List UInt8 := dkwX6_brings_1 ++ []
def dkwX6_brings_0 : List UInt8 := [16, 24, 61, 28, 155, 0, 42, 27, 28, 122, 17, 0, 255, 126, 62, 29, 153, 0, 24, 42, 180, 0, 37, 42]
abbrev dktX6_brings_0 : List UInt8 := dkwX6_brings_0 ++ dktX6_brings_1
theorem dksX6_brings_0 : cX6_brings.data.toList.drop 0 = dktX6_brings_0 := by decide +kernel
theorem dksX6_brings_1 : cX6_brings.data.toList.drop 24 = dktX6_brings_1 := dk_seg dksX6_brings_0 24 rfl rfl
theorem dX6_brings_0 : decode cX6_brings 0 = .ok (.bipush 24, 2) := dk_16 24 (dk_at dksX6_brings_0 0 rfl rfl)
theorem dX6_brings_2 : decode cX6_brings 2 = .ok (.istore_n 2, 1) := dk_61 (dk_at dksX6_brings_0 2 rfl rfl)
theorem dX6_brings_3 : decode cX6_brings 3 = .ok (.iload_n 2, 1) := dk_28 (dk_at dksX6_brings_0 3 rfl rfl)
theorem dX6_brings_4 : decode cX6_brings 4 = .ok (.ifCond .lt 42, 3) := dk_155 0 42 (dk_at dksX6_brings_0 4 rfl rfl)
theorem dX6_brings_7 : decode cX6_brings 7 = .ok (.iload_n 1, 1) := dk_27 (dk_at dksX6_brings_0 7 rfl rfl)
theorem dX6_brings_8 : decode cX6_brings 8 = .ok (.iload_n 2, 1) := dk_28 (dk_at dksX6_brings_0 8 rfl rfl)
theorem dX6_brings_9 : decode cX6_brings 9 = .ok (.ishr, 1) := dk_122 (dk_at dksX6_brings_0 9 rfl rfl)
theorem dX6_brings_10 : decode cX6_brings 10 = .ok (.sipush 255, 3) := dk_17 0 255 (dk_at dksX6_brings_0 10 rfl rfl)
theorem dX6_brings_13 : decode cX6_brings 13 = .ok (.iand, 1) := dk_126 (dk_at dksX6_brings_0 13 rfl rfl)
theorem dX6_brings_14 : decode cX6_brings 14 = .ok (.istore_n 3, 1) := dk_62 (dk_at dksX6_brings_0 14 rfl rfl)
theorem dX6_brings_15 : decode cX6_brings 15 = .ok (.iload_n 3, 1) := dk_29 (dk_at dksX6_brings_0 15 rfl rfl)
theorem dX6_brings_16 : decode cX6_brings 16 = .ok (.ifCond .eq 24, 3) := dk_153 0 24 (dk_at dksX6_brings_0 16 rfl rfl)
theorem dX6_brings_19 : decode cX6_brings 19 = .ok (.aload_n 0, 1) := dk_42 (dk_at dksX6_brings_0 19 rfl rfl)
theorem dX6_brings_20 : decode cX6_brings 20 = .ok (.getfield 37, 3) := dk_180 0 37 (dk_at dksX6_brings_0 20 rfl rfl)
theorem dX6_brings_23 : decode cX6_brings 23 = .ok (.aload_n 0, 1) := dk_42 (dk_at dksX6_brings_0 23 rfl rfl)
theorem dX6_brings_24 : decode cX6_brings 24 = .ok (.getfield 130, 3) := dk_180 0 130 (dk_at dksX6_brings_1 0 rfl rfl)
theorem dX6_brings_27 : decode cX6_brings 27 = .ok (.iload_n 3, 1) := dk_29 (dk_at dksX6_brings_1 3 rfl rfl)
theorem dX6_brings_28 : decode cX6_brings 28 = .ok (.i2b, 1) := dk_145 (dk_at dksX6_brings_1 4 rfl rfl)
theorem dX6_brings_29 : decode cX6_brings 29 = .ok (.bastore, 1) := dk_84 (dk_at dksX6_brings_1 5 rfl rfl)
theorem dX6_brings_30 : decode cX6_brings 30 = .ok (.aload_n 0, 1) := dk_42 (dk_at dksX6_brings_1 6 rfl rfl)
theorem dX6_brings_31 : decode cX6_brings 31 = .ok (.dup, 1) := dk_89 (dk_at dksX6_brings_1 7 rfl rfl)
theorem dX6_brings_32 : decode cX6_brings 32 = .ok (.getfield 130, 3) := dk_180 0 130 (dk_at dksX6_brings_1 8 rfl rfl)
theorem dX6_brings_35 : decode cX6_brings 35 = .ok (.iconst 1, 1) := dk_4 (dk_at dksX6_brings_1 11 rfl rfl)
theorem dX6_brings_36 : decode cX6_brings 36 = .ok (.iadd, 1) := dk_96 (dk_at dksX6_brings_1 12 rfl rfl)
theorem dX6_brings_37 : decode cX6_brings 37 = .ok (.putfield 130, 3) := dk_181 0 130 (dk_at dksX6_brings_1 13 rfl rfl)
theorem dX6_brings_40 : decode cX6_brings 40 = .ok (.iinc 2 (-8), 3) := dk_132 2 248 (dk_at dksX6_brings_1 16 rfl rfl)
theorem dX6_brings_43 : decode cX6_brings 43 = .ok (.goto (-40), 3) := dk_167 255 216 (dk_at dksX6_brings_1 19 rfl rfl)
theorem dX6_brings_46 : decode cX6_brings 46 = .ok (.return_, 1) := dk_177 (dk_at dksX6_brings_1 22 rfl rfl)
abbrev cX6_truncate : ByteArray := prog_12_method_28_code
def yX6_truncate : MethodName := ⟨RX6, "truncate", "(I)I"⟩
def dkwX6_truncate_1 : List UInt8 := [172, 42, 27, 181, 0, 130, 42, 180, 0, 130, 172]
abbrev dktX6_truncate_1 : List UInt8 := dkwX6_truncate_1 ++ []
def dkwX6_truncate_0 : List UInt8 := [42, 3, 181, 0, 3, 27, 133, 9, 42, 180, 0, 130, 133, 184, 0, 61, 154, 0, 9, 42, 4, 182, 0, 136]
abbrev dktX6_truncate_0 : List UInt8 := dkwX6_truncate_0 ++ dktX6_truncate_1
theorem dksX6_truncate_0 : cX6_truncate.data.toList.drop 0 = dktX6_truncate_0 := by decide +kernel
theorem dksX6_truncate_1 : cX6_truncate.data.toList.drop 24 = dktX6_truncate_1 := dk_seg dksX6_truncate_0 24 rfl rfl
theorem dX6_truncate_0 : decode cX6_truncate 0 = .ok (.aload_n 0, 1) := dk_42 (dk_at dksX6_truncate_0 0 rfl rfl)
theorem dX6_truncate_1 : decode cX6_truncate 1 = .ok (.iconst 0, 1) := dk_3 (dk_at dksX6_truncate_0 1 rfl rfl)
theorem dX6_truncate_2 : decode cX6_truncate 2 = .ok (.putfield 3, 3) := dk_181 0 3 (dk_at dksX6_truncate_0 2 rfl rfl)
theorem dX6_truncate_5 : decode cX6_truncate 5 = .ok (.iload_n 1, 1) := dk_27 (dk_at dksX6_truncate_0 5 rfl rfl)
theorem dX6_truncate_6 : decode cX6_truncate 6 = .ok (.i2l, 1) := dk_133 (dk_at dksX6_truncate_0 6 rfl rfl)
theorem dX6_truncate_7 : decode cX6_truncate 7 = .ok (.lconst 0, 1) := dk_9 (dk_at dksX6_truncate_0 7 rfl rfl)
theorem dX6_truncate_8 : decode cX6_truncate 8 = .ok (.aload_n 0, 1) := dk_42 (dk_at dksX6_truncate_0 8 rfl rfl)
theorem dX6_truncate_9 : decode cX6_truncate 9 = .ok (.getfield 130, 3) := dk_180 0 130 (dk_at dksX6_truncate_0 9 rfl rfl)
theorem dX6_truncate_12 : decode cX6_truncate 12 = .ok (.i2l, 1) := dk_133 (dk_at dksX6_truncate_0 12 rfl rfl)
theorem dX6_truncate_13 : decode cX6_truncate 13 = .ok (.invokestatic 61, 3) := dk_184 0 61 (dk_at dksX6_truncate_0 13 rfl rfl)
theorem dX6_truncate_16 : decode cX6_truncate 16 = .ok (.ifCond .ne 9, 3) := dk_154 0 9 (dk_at dksX6_truncate_0 16 rfl rfl)
theorem dX6_truncate_19 : decode cX6_truncate 19 = .ok (.aload_n 0, 1) := dk_42 (dk_at dksX6_truncate_0 19 rfl rfl)
theorem dX6_truncate_20 : decode cX6_truncate 20 = .ok (.iconst 1, 1) := dk_4 (dk_at dksX6_truncate_0 20 rfl rfl)
theorem dX6_truncate_21 : decode cX6_truncate 21 = .ok (.invokevirtual 136, 3) := dk_182 0 136 (dk_at dksX6_truncate_0 21 rfl rfl)
theorem dX6_truncate_24 : decode cX6_truncate 24 = .ok (.ireturn, 1) := dk_172 (dk_at dksX6_truncate_1 0 rfl rfl)
theorem dX6_truncate_25 : decode cX6_truncate 25 = .ok (.aload_n 0, 1) := dk_42 (dk_at dksX6_truncate_1 1 rfl rfl)
theorem dX6_truncate_26 : decode cX6_truncate 26 = .ok (.iload_n 1, 1) := dk_27 (dk_at dksX6_truncate_1 2 rfl rfl)
theorem dX6_truncate_27 : decode cX6_truncate 27 = .ok (.putfield 130, 3) := dk_181 0 130 (dk_at dksX6_truncate_1 3 rfl rfl)
theorem dX6_truncate_30 : decode cX6_truncate 30 = .ok (.aload_n 0, 1) := dk_42 (dk_at dksX6_truncate_1 6 rfl rfl)
theorem dX6_truncate_31 : decode cX6_truncate 31 = .ok (.getfield 130, 3) := dk_180 0 130 (dk_at dksX6_truncate_1 7 rfl rfl)
theorem dX6_truncate_34 : decode cX6_truncate 34 = .ok (.ireturn, 1) := dk_172 (dk_at dksX6_truncate_1 10 rfl rfl)
abbrev cX6_isIn : ByteArray := prog_12_method_3_code
def yX6_isIn : MethodName := ⟨RX6, "isIn", "(JJJ)Z"⟩
def dkwX6_isIn_0 : List UInt8 := [30, 32, 148, 155, 0, 14, 30, 22, 4, 148, 157, 0, 7, 4, 167, 0, 4, 3, 172]
abbrev dktX6_isIn_0 : List UInt8 := dkwX6_isIn_0 ++ []
theorem dksX6_isIn_0 : cX6_isIn.data.toList.drop 0 = dktX6_isIn_0 := by decide +kernel
theorem dX6_isIn_0 : decode cX6_isIn 0 = .ok (.lload_n 0, 1) := dk_30 (dk_at dksX6_isIn_0 0 rfl rfl)
theorem dX6_isIn_1 : decode cX6_isIn 1 = .ok (.lload_n 2, 1) := dk_32 (dk_at dksX6_isIn_0 1 rfl rfl)
theorem dX6_isIn_2 : decode cX6_isIn 2 = .ok (.lcmp, 1) := dk_148 (dk_at dksX6_isIn_0 2 rfl rfl)
theorem dX6_isIn_3 : decode cX6_isIn 3 = .ok (.ifCond .lt 14, 3) := dk_155 0 14 (dk_at dksX6_isIn_0 3 rfl rfl)
theorem dX6_isIn_6 : decode cX6_isIn 6 = .ok (.lload_n 0, 1) := dk_30 (dk_at dksX6_isIn_0 6 rfl rfl)
theorem dX6_isIn_7 : decode cX6_isIn 7 = .ok (.lload 4, 2) := dk_22 4 (dk_at dksX6_isIn_0 7 rfl rfl)
theorem dX6_isIn_9 : decode cX6_isIn 9 = .ok (.lcmp, 1) := dk_148 (dk_at dksX6_isIn_0 9 rfl rfl)
theorem dX6_isIn_10 : decode cX6_isIn 10 = .ok (.ifCond .gt 7, 3) := dk_157 0 7 (dk_at dksX6_isIn_0 10 rfl rfl)
theorem dX6_isIn_13 : decode cX6_isIn 13 = .ok (.iconst 1, 1) := dk_4 (dk_at dksX6_isIn_0 13 rfl rfl)
theorem dX6_isIn_14 : decode cX6_isIn 14 = .ok (.goto 4, 3) := dk_167 0 4 (dk_at dksX6_isIn_0 14 rfl rfl)
theorem dX6_isIn_17 : decode cX6_isIn 17 = .ok (.iconst 0, 1) := dk_3 (dk_at dksX6_isIn_0 17 rfl rfl)
theorem dX6_isIn_18 : decode cX6_isIn 18 = .ok (.ireturn, 1) := dk_172 (dk_at dksX6_isIn_0 18 rfl rfl)
abbrev cX6_errorPosition : ByteArray := prog_12_method_43_code
def yX6_errorPosition : MethodName := ⟨RX6, "errorPosition", "()I"⟩
def dkwX6_errorPosition_0 : List UInt8 := [42, 3, 181, 0, 3, 42, 182, 0, 238, 153, 0, 7, 2, 167, 0, 7, 42, 180, 0, 154, 172]
abbrev dktX6_errorPosition_0 : List UInt8 := dkwX6_errorPosition_0 ++ []
theorem dksX6_errorPosition_0 : cX6_errorPosition.data.toList.drop 0 = dktX6_errorPosition_0 := by decide +kernel
theorem dX6_errorPosition_0 : decode cX6_errorPosition 0 = .ok (.aload_n 0, 1) := dk_42 (dk_at dksX6_errorPosition_0 0 rfl rfl)
theorem dX6_errorPosition_1 : decode cX6_errorPosition 1 = .ok (.iconst 0, 1) := dk_3 (dk_at dksX6_errorPosition_0 1 rfl rfl)
theorem dX6_errorPosition_2 : decode cX6_errorPosition 2 = .ok (.putfield 3, 3) := dk_181 0 3 (dk_at dksX6_errorPosition_0 2 rfl rfl)
theorem dX6_errorPosition_5 : decode cX6_errorPosition 5 = .ok (.aload_n 0, 1) := dk_42 (dk_at dksX6_errorPosition_0 5 rfl rfl)
theorem dX6_errorPosition_6 : decode cX6_errorPosition 6 = .ok (.invokevirtual 238, 3) := dk_182 0 238 (dk_at dksX6_errorPosition_0 6 rfl rfl)
theorem dX6_errorPosition_9 : decode cX6_errorPosition 9 = .ok (.ifCond .eq 7, 3) := dk_153 0 7 (dk_at dksX6_errorPosition_0 9 rfl rfl)
theorem dX6_errorPosition_12 : decode cX6_errorPosition 12 = .ok (.iconst (-1), 1) := dk_2 (dk_at dksX6_errorPosition_0 12 rfl rfl)
theorem dX6_errorPosition_13 : decode cX6_errorPosition 13 = .ok (.goto 7, 3) := dk_167 0 7 (dk_at dksX6_errorPosition_0 13 rfl rfl)
theorem dX6_errorPosition_16 : decode cX6_errorPosition 16 = .ok (.aload_n 0, 1) := dk_42 (dk_at dksX6_errorPosition_0 16 rfl rfl)
theorem dX6_errorPosition_17 : decode cX6_errorPosition 17 = .ok (.getfield 154, 3) := dk_180 0 154 (dk_at dksX6_errorPosition_0 17 rfl rfl)
theorem dX6_errorPosition_20 : decode cX6_errorPosition 20 = .ok (.ireturn, 1) := dk_172 (dk_at dksX6_errorPosition_0 20 rfl rfl)
abbrev cX6_reads : ByteArray := prog_12_method_42_code
def yX6_reads : MethodName := ⟨RX6, "reads", "()Z"⟩
def dkwX6_reads_9 : List UInt8 := [42, 180, 0, 20, 184, 0, 48, 4, 172]
abbrev dktX6_reads_9 : List UInt8 := dkwX6_reads_9 ++ []
def dkwX6_reads_8 : List UInt8 := [182, 0, 180, 42, 27, 42, 180, 0, 199, 182, 0, 235, 154, 0, 5, 3, 172, 167, 255, 125, 28, 154, 0, 10]
abbrev dktX6_reads_8 : List UInt8 := dkwX6_reads_8 ++ dktX6_reads_9
def dkwX6_reads_7 : List UInt8 := [4, 61, 42, 29, 27, 160, 0, 10, 42, 180, 0, 199, 167, 0, 4, 2, 181, 0, 199, 29, 60, 42]
abbrev dktX6_reads_7 : List UInt8 := dkwX6_reads_7 ++ dktX6_reads_8
def dkwX6_reads_6 : List UInt8 := [54, 5, 21, 5, 154, 0, 5, 3, 172, 29, 158, 0, 16, 28, 154, 0, 12, 42, 180, 0, 20, 184, 0, 48]
abbrev dktX6_reads_6 : List UInt8 := dkwX6_reads_6 ++ dktX6_reads_7
def dkwX6_reads_5 : List UInt8 := [159, 0, 22, 29, 27, 163, 0, 13, 29, 27, 160, 0, 12, 21, 4, 153, 0, 7, 4, 167, 0, 4, 3]
abbrev dktX6_reads_5 : List UInt8 := dkwX6_reads_5 ++ dktX6_reads_6
def dkwX6_reads_4 : List UInt8 := [182, 0, 232, 62, 29, 153, 0, 8, 29, 6, 164, 0, 7, 4, 167, 0, 4, 3, 54, 4, 29, 2]
abbrev dktX6_reads_4 : List UInt8 := dkwX6_reads_4 ++ dktX6_reads_5
def dkwX6_reads_3 : List UInt8 := [42, 180, 0, 157, 153, 0, 130, 42, 16, 59, 182, 0, 190, 154, 0, 5, 3, 172, 42, 182, 0, 180, 42]
abbrev dktX6_reads_3 : List UInt8 := dkwX6_reads_3 ++ dktX6_reads_4
def dkwX6_reads_2 : List UInt8 := [154, 0, 5, 3, 172, 42, 180, 0, 20, 3, 42, 180, 0, 183, 79, 3, 60, 42, 2, 181, 0, 199, 3, 61]
abbrev dktX6_reads_2 : List UInt8 := dkwX6_reads_2 ++ dktX6_reads_3
def dkwX6_reads_1 : List UInt8 := [181, 0, 151, 42, 182, 0, 180, 42, 18, 230, 182, 0, 206, 153, 0, 14, 42, 4, 17, 3, 231, 182, 0, 193]
abbrev dktX6_reads_1 : List UInt8 := dkwX6_reads_1 ++ dktX6_reads_2
def dkwX6_reads_0 : List UInt8 := [3, 60, 27, 16, 78, 162, 0, 16, 42, 180, 0, 20, 27, 3, 79, 132, 1, 1, 167, 255, 240, 42, 3]
abbrev dktX6_reads_0 : List UInt8 := dkwX6_reads_0 ++ dktX6_reads_1
theorem dksX6_reads_0 : cX6_reads.data.toList.drop 0 = dktX6_reads_0 := by decide +kernel
theorem dksX6_reads_1 : cX6_reads.data.toList.drop 23 = dktX6_reads_1 := dk_seg dksX6_reads_0 23 rfl rfl
theorem dksX6_reads_2 : cX6_reads.data.toList.drop 47 = dktX6_reads_2 := dk_seg dksX6_reads_1 24 rfl rfl
theorem dksX6_reads_3 : cX6_reads.data.toList.drop 71 = dktX6_reads_3 := dk_seg dksX6_reads_2 24 rfl rfl
theorem dksX6_reads_4 : cX6_reads.data.toList.drop 94 = dktX6_reads_4 := dk_seg dksX6_reads_3 23 rfl rfl
theorem dksX6_reads_5 : cX6_reads.data.toList.drop 116 = dktX6_reads_5 := dk_seg dksX6_reads_4 22 rfl rfl
theorem dksX6_reads_6 : cX6_reads.data.toList.drop 139 = dktX6_reads_6 := dk_seg dksX6_reads_5 23 rfl rfl
theorem dksX6_reads_7 : cX6_reads.data.toList.drop 163 = dktX6_reads_7 := dk_seg dksX6_reads_6 24 rfl rfl
theorem dksX6_reads_8 : cX6_reads.data.toList.drop 185 = dktX6_reads_8 := dk_seg dksX6_reads_7 22 rfl rfl
theorem dksX6_reads_9 : cX6_reads.data.toList.drop 209 = dktX6_reads_9 := dk_seg dksX6_reads_8 24 rfl rfl
theorem dX6_reads_0 : decode cX6_reads 0 = .ok (.iconst 0, 1) := dk_3 (dk_at dksX6_reads_0 0 rfl rfl)
theorem dX6_reads_1 : decode cX6_reads 1 = .ok (.istore_n 1, 1) := dk_60 (dk_at dksX6_reads_0 1 rfl rfl)
theorem dX6_reads_2 : decode cX6_reads 2 = .ok (.iload_n 1, 1) := dk_27 (dk_at dksX6_reads_0 2 rfl rfl)
theorem dX6_reads_3 : decode cX6_reads 3 = .ok (.bipush 78, 2) := dk_16 78 (dk_at dksX6_reads_0 3 rfl rfl)
theorem dX6_reads_5 : decode cX6_reads 5 = .ok (.if_icmp .ge 16, 3) := dk_162 0 16 (dk_at dksX6_reads_0 5 rfl rfl)
theorem dX6_reads_8 : decode cX6_reads 8 = .ok (.aload_n 0, 1) := dk_42 (dk_at dksX6_reads_0 8 rfl rfl)
theorem dX6_reads_9 : decode cX6_reads 9 = .ok (.getfield 20, 3) := dk_180 0 20 (dk_at dksX6_reads_0 9 rfl rfl)
theorem dX6_reads_12 : decode cX6_reads 12 = .ok (.iload_n 1, 1) := dk_27 (dk_at dksX6_reads_0 12 rfl rfl)
theorem dX6_reads_13 : decode cX6_reads 13 = .ok (.iconst 0, 1) := dk_3 (dk_at dksX6_reads_0 13 rfl rfl)
theorem dX6_reads_14 : decode cX6_reads 14 = .ok (.iastore, 1) := dk_79 (dk_at dksX6_reads_0 14 rfl rfl)
theorem dX6_reads_15 : decode cX6_reads 15 = .ok (.iinc 1 1, 3) := dk_132 1 1 (dk_at dksX6_reads_0 15 rfl rfl)
theorem dX6_reads_18 : decode cX6_reads 18 = .ok (.goto (-16), 3) := dk_167 255 240 (dk_at dksX6_reads_0 18 rfl rfl)
theorem dX6_reads_21 : decode cX6_reads 21 = .ok (.aload_n 0, 1) := dk_42 (dk_at dksX6_reads_0 21 rfl rfl)
theorem dX6_reads_22 : decode cX6_reads 22 = .ok (.iconst 0, 1) := dk_3 (dk_at dksX6_reads_0 22 rfl rfl)
theorem dX6_reads_23 : decode cX6_reads 23 = .ok (.putfield 151, 3) := dk_181 0 151 (dk_at dksX6_reads_1 0 rfl rfl)
theorem dX6_reads_26 : decode cX6_reads 26 = .ok (.aload_n 0, 1) := dk_42 (dk_at dksX6_reads_1 3 rfl rfl)
theorem dX6_reads_27 : decode cX6_reads 27 = .ok (.invokevirtual 180, 3) := dk_182 0 180 (dk_at dksX6_reads_1 4 rfl rfl)
theorem dX6_reads_30 : decode cX6_reads 30 = .ok (.aload_n 0, 1) := dk_42 (dk_at dksX6_reads_1 7 rfl rfl)
theorem dX6_reads_31 : decode cX6_reads 31 = .ok (.ldc 230, 2) := dk_18 230 (dk_at dksX6_reads_1 8 rfl rfl)
theorem dX6_reads_33 : decode cX6_reads 33 = .ok (.invokevirtual 206, 3) := dk_182 0 206 (dk_at dksX6_reads_1 10 rfl rfl)
theorem dX6_reads_36 : decode cX6_reads 36 = .ok (.ifCond .eq 14, 3) := dk_153 0 14 (dk_at dksX6_reads_1 13 rfl rfl)
theorem dX6_reads_39 : decode cX6_reads 39 = .ok (.aload_n 0, 1) := dk_42 (dk_at dksX6_reads_1 16 rfl rfl)
theorem dX6_reads_40 : decode cX6_reads 40 = .ok (.iconst 1, 1) := dk_4 (dk_at dksX6_reads_1 17 rfl rfl)
theorem dX6_reads_41 : decode cX6_reads 41 = .ok (.sipush 999, 3) := dk_17 3 231 (dk_at dksX6_reads_1 18 rfl rfl)
theorem dX6_reads_44 : decode cX6_reads 44 = .ok (.invokevirtual 193, 3) := dk_182 0 193 (dk_at dksX6_reads_1 21 rfl rfl)
theorem dX6_reads_47 : decode cX6_reads 47 = .ok (.ifCond .ne 5, 3) := dk_154 0 5 (dk_at dksX6_reads_2 0 rfl rfl)
theorem dX6_reads_50 : decode cX6_reads 50 = .ok (.iconst 0, 1) := dk_3 (dk_at dksX6_reads_2 3 rfl rfl)
theorem dX6_reads_51 : decode cX6_reads 51 = .ok (.ireturn, 1) := dk_172 (dk_at dksX6_reads_2 4 rfl rfl)
theorem dX6_reads_52 : decode cX6_reads 52 = .ok (.aload_n 0, 1) := dk_42 (dk_at dksX6_reads_2 5 rfl rfl)
theorem dX6_reads_53 : decode cX6_reads 53 = .ok (.getfield 20, 3) := dk_180 0 20 (dk_at dksX6_reads_2 6 rfl rfl)
theorem dX6_reads_56 : decode cX6_reads 56 = .ok (.iconst 0, 1) := dk_3 (dk_at dksX6_reads_2 9 rfl rfl)
theorem dX6_reads_57 : decode cX6_reads 57 = .ok (.aload_n 0, 1) := dk_42 (dk_at dksX6_reads_2 10 rfl rfl)
theorem dX6_reads_58 : decode cX6_reads 58 = .ok (.getfield 183, 3) := dk_180 0 183 (dk_at dksX6_reads_2 11 rfl rfl)
theorem dX6_reads_61 : decode cX6_reads 61 = .ok (.iastore, 1) := dk_79 (dk_at dksX6_reads_2 14 rfl rfl)
theorem dX6_reads_62 : decode cX6_reads 62 = .ok (.iconst 0, 1) := dk_3 (dk_at dksX6_reads_2 15 rfl rfl)
theorem dX6_reads_63 : decode cX6_reads 63 = .ok (.istore_n 1, 1) := dk_60 (dk_at dksX6_reads_2 16 rfl rfl)
theorem dX6_reads_64 : decode cX6_reads 64 = .ok (.aload_n 0, 1) := dk_42 (dk_at dksX6_reads_2 17 rfl rfl)
theorem dX6_reads_65 : decode cX6_reads 65 = .ok (.iconst (-1), 1) := dk_2 (dk_at dksX6_reads_2 18 rfl rfl)
theorem dX6_reads_66 : decode cX6_reads 66 = .ok (.putfield 199, 3) := dk_181 0 199 (dk_at dksX6_reads_2 19 rfl rfl)
theorem dX6_reads_69 : decode cX6_reads 69 = .ok (.iconst 0, 1) := dk_3 (dk_at dksX6_reads_2 22 rfl rfl)
theorem dX6_reads_70 : decode cX6_reads 70 = .ok (.istore_n 2, 1) := dk_61 (dk_at dksX6_reads_2 23 rfl rfl)
theorem dX6_reads_71 : decode cX6_reads 71 = .ok (.aload_n 0, 1) := dk_42 (dk_at dksX6_reads_3 0 rfl rfl)
theorem dX6_reads_72 : decode cX6_reads 72 = .ok (.getfield 157, 3) := dk_180 0 157 (dk_at dksX6_reads_3 1 rfl rfl)
theorem dX6_reads_75 : decode cX6_reads 75 = .ok (.ifCond .eq 130, 3) := dk_153 0 130 (dk_at dksX6_reads_3 4 rfl rfl)
theorem dX6_reads_78 : decode cX6_reads 78 = .ok (.aload_n 0, 1) := dk_42 (dk_at dksX6_reads_3 7 rfl rfl)
theorem dX6_reads_79 : decode cX6_reads 79 = .ok (.bipush 59, 2) := dk_16 59 (dk_at dksX6_reads_3 8 rfl rfl)
theorem dX6_reads_81 : decode cX6_reads 81 = .ok (.invokevirtual 190, 3) := dk_182 0 190 (dk_at dksX6_reads_3 10 rfl rfl)
theorem dX6_reads_84 : decode cX6_reads 84 = .ok (.ifCond .ne 5, 3) := dk_154 0 5 (dk_at dksX6_reads_3 13 rfl rfl)
theorem dX6_reads_87 : decode cX6_reads 87 = .ok (.iconst 0, 1) := dk_3 (dk_at dksX6_reads_3 16 rfl rfl)
theorem dX6_reads_88 : decode cX6_reads 88 = .ok (.ireturn, 1) := dk_172 (dk_at dksX6_reads_3 17 rfl rfl)
theorem dX6_reads_89 : decode cX6_reads 89 = .ok (.aload_n 0, 1) := dk_42 (dk_at dksX6_reads_3 18 rfl rfl)
theorem dX6_reads_90 : decode cX6_reads 90 = .ok (.invokevirtual 180, 3) := dk_182 0 180 (dk_at dksX6_reads_3 19 rfl rfl)
theorem dX6_reads_93 : decode cX6_reads 93 = .ok (.aload_n 0, 1) := dk_42 (dk_at dksX6_reads_3 22 rfl rfl)
theorem dX6_reads_94 : decode cX6_reads 94 = .ok (.invokevirtual 232, 3) := dk_182 0 232 (dk_at dksX6_reads_4 0 rfl rfl)
theorem dX6_reads_97 : decode cX6_reads 97 = .ok (.istore_n 3, 1) := dk_62 (dk_at dksX6_reads_4 3 rfl rfl)
theorem dX6_reads_98 : decode cX6_reads 98 = .ok (.iload_n 3, 1) := dk_29 (dk_at dksX6_reads_4 4 rfl rfl)
theorem dX6_reads_99 : decode cX6_reads 99 = .ok (.ifCond .eq 8, 3) := dk_153 0 8 (dk_at dksX6_reads_4 5 rfl rfl)
theorem dX6_reads_102 : decode cX6_reads 102 = .ok (.iload_n 3, 1) := dk_29 (dk_at dksX6_reads_4 8 rfl rfl)
theorem dX6_reads_103 : decode cX6_reads 103 = .ok (.iconst 3, 1) := dk_6 (dk_at dksX6_reads_4 9 rfl rfl)
theorem dX6_reads_104 : decode cX6_reads 104 = .ok (.if_icmp .le 7, 3) := dk_164 0 7 (dk_at dksX6_reads_4 10 rfl rfl)
theorem dX6_reads_107 : decode cX6_reads 107 = .ok (.iconst 1, 1) := dk_4 (dk_at dksX6_reads_4 13 rfl rfl)
theorem dX6_reads_108 : decode cX6_reads 108 = .ok (.goto 4, 3) := dk_167 0 4 (dk_at dksX6_reads_4 14 rfl rfl)
theorem dX6_reads_111 : decode cX6_reads 111 = .ok (.iconst 0, 1) := dk_3 (dk_at dksX6_reads_4 17 rfl rfl)
theorem dX6_reads_112 : decode cX6_reads 112 = .ok (.istore 4, 2) := dk_54 4 (dk_at dksX6_reads_4 18 rfl rfl)
theorem dX6_reads_114 : decode cX6_reads 114 = .ok (.iload_n 3, 1) := dk_29 (dk_at dksX6_reads_4 20 rfl rfl)
theorem dX6_reads_115 : decode cX6_reads 115 = .ok (.iconst (-1), 1) := dk_2 (dk_at dksX6_reads_4 21 rfl rfl)
theorem dX6_reads_116 : decode cX6_reads 116 = .ok (.if_icmp .eq 22, 3) := dk_159 0 22 (dk_at dksX6_reads_5 0 rfl rfl)
theorem dX6_reads_119 : decode cX6_reads 119 = .ok (.iload_n 3, 1) := dk_29 (dk_at dksX6_reads_5 3 rfl rfl)
theorem dX6_reads_120 : decode cX6_reads 120 = .ok (.iload_n 1, 1) := dk_27 (dk_at dksX6_reads_5 4 rfl rfl)
theorem dX6_reads_121 : decode cX6_reads 121 = .ok (.if_icmp .gt 13, 3) := dk_163 0 13 (dk_at dksX6_reads_5 5 rfl rfl)
theorem dX6_reads_124 : decode cX6_reads 124 = .ok (.iload_n 3, 1) := dk_29 (dk_at dksX6_reads_5 8 rfl rfl)
theorem dX6_reads_125 : decode cX6_reads 125 = .ok (.iload_n 1, 1) := dk_27 (dk_at dksX6_reads_5 9 rfl rfl)
theorem dX6_reads_126 : decode cX6_reads 126 = .ok (.if_icmp .ne 12, 3) := dk_160 0 12 (dk_at dksX6_reads_5 10 rfl rfl)
theorem dX6_reads_129 : decode cX6_reads 129 = .ok (.iload 4, 2) := dk_21 4 (dk_at dksX6_reads_5 13 rfl rfl)
theorem dX6_reads_131 : decode cX6_reads 131 = .ok (.ifCond .eq 7, 3) := dk_153 0 7 (dk_at dksX6_reads_5 15 rfl rfl)
theorem dX6_reads_134 : decode cX6_reads 134 = .ok (.iconst 1, 1) := dk_4 (dk_at dksX6_reads_5 18 rfl rfl)
theorem dX6_reads_135 : decode cX6_reads 135 = .ok (.goto 4, 3) := dk_167 0 4 (dk_at dksX6_reads_5 19 rfl rfl)
theorem dX6_reads_138 : decode cX6_reads 138 = .ok (.iconst 0, 1) := dk_3 (dk_at dksX6_reads_5 22 rfl rfl)
theorem dX6_reads_139 : decode cX6_reads 139 = .ok (.istore 5, 2) := dk_54 5 (dk_at dksX6_reads_6 0 rfl rfl)
theorem dX6_reads_141 : decode cX6_reads 141 = .ok (.iload 5, 2) := dk_21 5 (dk_at dksX6_reads_6 2 rfl rfl)
theorem dX6_reads_143 : decode cX6_reads 143 = .ok (.ifCond .ne 5, 3) := dk_154 0 5 (dk_at dksX6_reads_6 4 rfl rfl)
theorem dX6_reads_146 : decode cX6_reads 146 = .ok (.iconst 0, 1) := dk_3 (dk_at dksX6_reads_6 7 rfl rfl)
theorem dX6_reads_147 : decode cX6_reads 147 = .ok (.ireturn, 1) := dk_172 (dk_at dksX6_reads_6 8 rfl rfl)
theorem dX6_reads_148 : decode cX6_reads 148 = .ok (.iload_n 3, 1) := dk_29 (dk_at dksX6_reads_6 9 rfl rfl)
theorem dX6_reads_149 : decode cX6_reads 149 = .ok (.ifCond .le 16, 3) := dk_158 0 16 (dk_at dksX6_reads_6 10 rfl rfl)
theorem dX6_reads_152 : decode cX6_reads 152 = .ok (.iload_n 2, 1) := dk_28 (dk_at dksX6_reads_6 13 rfl rfl)
theorem dX6_reads_153 : decode cX6_reads 153 = .ok (.ifCond .ne 12, 3) := dk_154 0 12 (dk_at dksX6_reads_6 14 rfl rfl)
theorem dX6_reads_156 : decode cX6_reads 156 = .ok (.aload_n 0, 1) := dk_42 (dk_at dksX6_reads_6 17 rfl rfl)
theorem dX6_reads_157 : decode cX6_reads 157 = .ok (.getfield 20, 3) := dk_180 0 20 (dk_at dksX6_reads_6 18 rfl rfl)
theorem dX6_reads_160 : decode cX6_reads 160 = .ok (.invokestatic 48, 3) := dk_184 0 48 (dk_at dksX6_reads_6 21 rfl rfl)
theorem dX6_reads_163 : decode cX6_reads 163 = .ok (.iconst 1, 1) := dk_4 (dk_at dksX6_reads_7 0 rfl rfl)
theorem dX6_reads_164 : decode cX6_reads 164 = .ok (.istore_n 2, 1) := dk_61 (dk_at dksX6_reads_7 1 rfl rfl)
theorem dX6_reads_165 : decode cX6_reads 165 = .ok (.aload_n 0, 1) := dk_42 (dk_at dksX6_reads_7 2 rfl rfl)
theorem dX6_reads_166 : decode cX6_reads 166 = .ok (.iload_n 3, 1) := dk_29 (dk_at dksX6_reads_7 3 rfl rfl)
theorem dX6_reads_167 : decode cX6_reads 167 = .ok (.iload_n 1, 1) := dk_27 (dk_at dksX6_reads_7 4 rfl rfl)
theorem dX6_reads_168 : decode cX6_reads 168 = .ok (.if_icmp .ne 10, 3) := dk_160 0 10 (dk_at dksX6_reads_7 5 rfl rfl)
theorem dX6_reads_171 : decode cX6_reads 171 = .ok (.aload_n 0, 1) := dk_42 (dk_at dksX6_reads_7 8 rfl rfl)
theorem dX6_reads_172 : decode cX6_reads 172 = .ok (.getfield 199, 3) := dk_180 0 199 (dk_at dksX6_reads_7 9 rfl rfl)
theorem dX6_reads_175 : decode cX6_reads 175 = .ok (.goto 4, 3) := dk_167 0 4 (dk_at dksX6_reads_7 12 rfl rfl)
theorem dX6_reads_178 : decode cX6_reads 178 = .ok (.iconst (-1), 1) := dk_2 (dk_at dksX6_reads_7 15 rfl rfl)
theorem dX6_reads_179 : decode cX6_reads 179 = .ok (.putfield 199, 3) := dk_181 0 199 (dk_at dksX6_reads_7 16 rfl rfl)
theorem dX6_reads_182 : decode cX6_reads 182 = .ok (.iload_n 3, 1) := dk_29 (dk_at dksX6_reads_7 19 rfl rfl)
theorem dX6_reads_183 : decode cX6_reads 183 = .ok (.istore_n 1, 1) := dk_60 (dk_at dksX6_reads_7 20 rfl rfl)
theorem dX6_reads_184 : decode cX6_reads 184 = .ok (.aload_n 0, 1) := dk_42 (dk_at dksX6_reads_7 21 rfl rfl)
theorem dX6_reads_185 : decode cX6_reads 185 = .ok (.invokevirtual 180, 3) := dk_182 0 180 (dk_at dksX6_reads_8 0 rfl rfl)
theorem dX6_reads_188 : decode cX6_reads 188 = .ok (.aload_n 0, 1) := dk_42 (dk_at dksX6_reads_8 3 rfl rfl)
theorem dX6_reads_189 : decode cX6_reads 189 = .ok (.iload_n 1, 1) := dk_27 (dk_at dksX6_reads_8 4 rfl rfl)
theorem dX6_reads_190 : decode cX6_reads 190 = .ok (.aload_n 0, 1) := dk_42 (dk_at dksX6_reads_8 5 rfl rfl)
theorem dX6_reads_191 : decode cX6_reads 191 = .ok (.getfield 199, 3) := dk_180 0 199 (dk_at dksX6_reads_8 6 rfl rfl)
theorem dX6_reads_194 : decode cX6_reads 194 = .ok (.invokevirtual 235, 3) := dk_182 0 235 (dk_at dksX6_reads_8 9 rfl rfl)
theorem dX6_reads_197 : decode cX6_reads 197 = .ok (.ifCond .ne 5, 3) := dk_154 0 5 (dk_at dksX6_reads_8 12 rfl rfl)
theorem dX6_reads_200 : decode cX6_reads 200 = .ok (.iconst 0, 1) := dk_3 (dk_at dksX6_reads_8 15 rfl rfl)
theorem dX6_reads_201 : decode cX6_reads 201 = .ok (.ireturn, 1) := dk_172 (dk_at dksX6_reads_8 16 rfl rfl)
theorem dX6_reads_202 : decode cX6_reads 202 = .ok (.goto (-131), 3) := dk_167 255 125 (dk_at dksX6_reads_8 17 rfl rfl)
theorem dX6_reads_205 : decode cX6_reads 205 = .ok (.iload_n 2, 1) := dk_28 (dk_at dksX6_reads_8 20 rfl rfl)
theorem dX6_reads_206 : decode cX6_reads 206 = .ok (.ifCond .ne 10, 3) := dk_154 0 10 (dk_at dksX6_reads_8 21 rfl rfl)
theorem dX6_reads_209 : decode cX6_reads 209 = .ok (.aload_n 0, 1) := dk_42 (dk_at dksX6_reads_9 0 rfl rfl)
theorem dX6_reads_210 : decode cX6_reads 210 = .ok (.getfield 20, 3) := dk_180 0 20 (dk_at dksX6_reads_9 1 rfl rfl)
theorem dX6_reads_213 : decode cX6_reads 213 = .ok (.invokestatic 48, 3) := dk_184 0 48 (dk_at dksX6_reads_9 4 rfl rfl)
theorem dX6_reads_216 : decode cX6_reads 216 = .ok (.iconst 1, 1) := dk_4 (dk_at dksX6_reads_9 7 rfl rfl)
theorem dX6_reads_217 : decode cX6_reads 217 = .ok (.ireturn, 1) := dk_172 (dk_at dksX6_reads_9 8 rfl rfl)
abbrev cX6_advances : ByteArray := prog_12_method_31_code
def yX6_advances : MethodName := ⟨RX6, "advances", "()V"⟩
def dkwX6_advances_6 : List UInt8 := [167, 255, 235, 42, 6, 181, 0, 157, 42, 89, 180, 0, 151, 4, 96, 181, 0, 151, 177]
abbrev dktX6_advances_6 : List UInt8 := dkwX6_advances_6 ++ []
def dkwX6_advances_5 : List UInt8 := [181, 0, 157, 42, 42, 180, 0, 151, 182, 0, 164, 153, 0, 31, 42, 89, 180, 0, 151, 4, 96, 181, 0, 151]
abbrev dktX6_advances_5 : List UInt8 := dkwX6_advances_5 ++ dktX6_advances_6
def dkwX6_advances_4 : List UInt8 := [180, 0, 151, 4, 96, 181, 0, 151, 167, 255, 235, 42, 42, 180, 0, 151, 182, 0, 164, 153, 0, 32, 42, 5]
abbrev dktX6_advances_4 : List UInt8 := dkwX6_advances_4 ++ dktX6_advances_5
def dkwX6_advances_3 : List UInt8 := [182, 0, 160, 153, 0, 32, 42, 4, 181, 0, 157, 42, 42, 180, 0, 151, 182, 0, 160, 153, 0, 71, 42, 89]
abbrev dktX6_advances_3 : List UInt8 := dkwX6_advances_3 ++ dktX6_advances_4
def dkwX6_advances_2 : List UInt8 := [42, 180, 0, 151, 42, 180, 0, 130, 160, 0, 11, 42, 3, 181, 0, 157, 167, 0, 98, 42, 42, 180, 0, 151]
abbrev dktX6_advances_2 : List UInt8 := dkwX6_advances_2 ++ dktX6_advances_3
def dkwX6_advances_1 : List UInt8 := [160, 0, 16, 42, 89, 180, 0, 151, 4, 96, 181, 0, 151, 167, 255, 221, 42, 42, 180, 0, 151, 181, 0, 154]
abbrev dktX6_advances_1 : List UInt8 := dkwX6_advances_1 ++ dktX6_advances_2
def dkwX6_advances_0 : List UInt8 := [42, 180, 0, 151, 42, 180, 0, 130, 162, 0, 30, 42, 180, 0, 37, 42, 180, 0, 151, 51, 16, 32]
abbrev dktX6_advances_0 : List UInt8 := dkwX6_advances_0 ++ dktX6_advances_1
theorem dksX6_advances_0 : cX6_advances.data.toList.drop 0 = dktX6_advances_0 := by decide +kernel
theorem dksX6_advances_1 : cX6_advances.data.toList.drop 22 = dktX6_advances_1 := dk_seg dksX6_advances_0 22 rfl rfl
theorem dksX6_advances_2 : cX6_advances.data.toList.drop 46 = dktX6_advances_2 := dk_seg dksX6_advances_1 24 rfl rfl
theorem dksX6_advances_3 : cX6_advances.data.toList.drop 70 = dktX6_advances_3 := dk_seg dksX6_advances_2 24 rfl rfl
theorem dksX6_advances_4 : cX6_advances.data.toList.drop 94 = dktX6_advances_4 := dk_seg dksX6_advances_3 24 rfl rfl
theorem dksX6_advances_5 : cX6_advances.data.toList.drop 118 = dktX6_advances_5 := dk_seg dksX6_advances_4 24 rfl rfl
theorem dksX6_advances_6 : cX6_advances.data.toList.drop 142 = dktX6_advances_6 := dk_seg dksX6_advances_5 24 rfl rfl
theorem dX6_advances_0 : decode cX6_advances 0 = .ok (.aload_n 0, 1) := dk_42 (dk_at dksX6_advances_0 0 rfl rfl)
theorem dX6_advances_1 : decode cX6_advances 1 = .ok (.getfield 151, 3) := dk_180 0 151 (dk_at dksX6_advances_0 1 rfl rfl)
theorem dX6_advances_4 : decode cX6_advances 4 = .ok (.aload_n 0, 1) := dk_42 (dk_at dksX6_advances_0 4 rfl rfl)
theorem dX6_advances_5 : decode cX6_advances 5 = .ok (.getfield 130, 3) := dk_180 0 130 (dk_at dksX6_advances_0 5 rfl rfl)
theorem dX6_advances_8 : decode cX6_advances 8 = .ok (.if_icmp .ge 30, 3) := dk_162 0 30 (dk_at dksX6_advances_0 8 rfl rfl)
theorem dX6_advances_11 : decode cX6_advances 11 = .ok (.aload_n 0, 1) := dk_42 (dk_at dksX6_advances_0 11 rfl rfl)
theorem dX6_advances_12 : decode cX6_advances 12 = .ok (.getfield 37, 3) := dk_180 0 37 (dk_at dksX6_advances_0 12 rfl rfl)
theorem dX6_advances_15 : decode cX6_advances 15 = .ok (.aload_n 0, 1) := dk_42 (dk_at dksX6_advances_0 15 rfl rfl)
theorem dX6_advances_16 : decode cX6_advances 16 = .ok (.getfield 151, 3) := dk_180 0 151 (dk_at dksX6_advances_0 16 rfl rfl)
theorem dX6_advances_19 : decode cX6_advances 19 = .ok (.baload, 1) := dk_51 (dk_at dksX6_advances_0 19 rfl rfl)
theorem dX6_advances_20 : decode cX6_advances 20 = .ok (.bipush 32, 2) := dk_16 32 (dk_at dksX6_advances_0 20 rfl rfl)
theorem dX6_advances_22 : decode cX6_advances 22 = .ok (.if_icmp .ne 16, 3) := dk_160 0 16 (dk_at dksX6_advances_1 0 rfl rfl)
theorem dX6_advances_25 : decode cX6_advances 25 = .ok (.aload_n 0, 1) := dk_42 (dk_at dksX6_advances_1 3 rfl rfl)
theorem dX6_advances_26 : decode cX6_advances 26 = .ok (.dup, 1) := dk_89 (dk_at dksX6_advances_1 4 rfl rfl)
theorem dX6_advances_27 : decode cX6_advances 27 = .ok (.getfield 151, 3) := dk_180 0 151 (dk_at dksX6_advances_1 5 rfl rfl)
theorem dX6_advances_30 : decode cX6_advances 30 = .ok (.iconst 1, 1) := dk_4 (dk_at dksX6_advances_1 8 rfl rfl)
theorem dX6_advances_31 : decode cX6_advances 31 = .ok (.iadd, 1) := dk_96 (dk_at dksX6_advances_1 9 rfl rfl)
theorem dX6_advances_32 : decode cX6_advances 32 = .ok (.putfield 151, 3) := dk_181 0 151 (dk_at dksX6_advances_1 10 rfl rfl)
theorem dX6_advances_35 : decode cX6_advances 35 = .ok (.goto (-35), 3) := dk_167 255 221 (dk_at dksX6_advances_1 13 rfl rfl)
theorem dX6_advances_38 : decode cX6_advances 38 = .ok (.aload_n 0, 1) := dk_42 (dk_at dksX6_advances_1 16 rfl rfl)
theorem dX6_advances_39 : decode cX6_advances 39 = .ok (.aload_n 0, 1) := dk_42 (dk_at dksX6_advances_1 17 rfl rfl)
theorem dX6_advances_40 : decode cX6_advances 40 = .ok (.getfield 151, 3) := dk_180 0 151 (dk_at dksX6_advances_1 18 rfl rfl)
theorem dX6_advances_43 : decode cX6_advances 43 = .ok (.putfield 154, 3) := dk_181 0 154 (dk_at dksX6_advances_1 21 rfl rfl)
theorem dX6_advances_46 : decode cX6_advances 46 = .ok (.aload_n 0, 1) := dk_42 (dk_at dksX6_advances_2 0 rfl rfl)
theorem dX6_advances_47 : decode cX6_advances 47 = .ok (.getfield 151, 3) := dk_180 0 151 (dk_at dksX6_advances_2 1 rfl rfl)
theorem dX6_advances_50 : decode cX6_advances 50 = .ok (.aload_n 0, 1) := dk_42 (dk_at dksX6_advances_2 4 rfl rfl)
theorem dX6_advances_51 : decode cX6_advances 51 = .ok (.getfield 130, 3) := dk_180 0 130 (dk_at dksX6_advances_2 5 rfl rfl)
theorem dX6_advances_54 : decode cX6_advances 54 = .ok (.if_icmp .ne 11, 3) := dk_160 0 11 (dk_at dksX6_advances_2 8 rfl rfl)
theorem dX6_advances_57 : decode cX6_advances 57 = .ok (.aload_n 0, 1) := dk_42 (dk_at dksX6_advances_2 11 rfl rfl)
theorem dX6_advances_58 : decode cX6_advances 58 = .ok (.iconst 0, 1) := dk_3 (dk_at dksX6_advances_2 12 rfl rfl)
theorem dX6_advances_59 : decode cX6_advances 59 = .ok (.putfield 157, 3) := dk_181 0 157 (dk_at dksX6_advances_2 13 rfl rfl)
theorem dX6_advances_62 : decode cX6_advances 62 = .ok (.goto 98, 3) := dk_167 0 98 (dk_at dksX6_advances_2 16 rfl rfl)
theorem dX6_advances_65 : decode cX6_advances 65 = .ok (.aload_n 0, 1) := dk_42 (dk_at dksX6_advances_2 19 rfl rfl)
theorem dX6_advances_66 : decode cX6_advances 66 = .ok (.aload_n 0, 1) := dk_42 (dk_at dksX6_advances_2 20 rfl rfl)
theorem dX6_advances_67 : decode cX6_advances 67 = .ok (.getfield 151, 3) := dk_180 0 151 (dk_at dksX6_advances_2 21 rfl rfl)
theorem dX6_advances_70 : decode cX6_advances 70 = .ok (.invokevirtual 160, 3) := dk_182 0 160 (dk_at dksX6_advances_3 0 rfl rfl)
theorem dX6_advances_73 : decode cX6_advances 73 = .ok (.ifCond .eq 32, 3) := dk_153 0 32 (dk_at dksX6_advances_3 3 rfl rfl)
theorem dX6_advances_76 : decode cX6_advances 76 = .ok (.aload_n 0, 1) := dk_42 (dk_at dksX6_advances_3 6 rfl rfl)
theorem dX6_advances_77 : decode cX6_advances 77 = .ok (.iconst 1, 1) := dk_4 (dk_at dksX6_advances_3 7 rfl rfl)
theorem dX6_advances_78 : decode cX6_advances 78 = .ok (.putfield 157, 3) := dk_181 0 157 (dk_at dksX6_advances_3 8 rfl rfl)
theorem dX6_advances_81 : decode cX6_advances 81 = .ok (.aload_n 0, 1) := dk_42 (dk_at dksX6_advances_3 11 rfl rfl)
theorem dX6_advances_82 : decode cX6_advances 82 = .ok (.aload_n 0, 1) := dk_42 (dk_at dksX6_advances_3 12 rfl rfl)
theorem dX6_advances_83 : decode cX6_advances 83 = .ok (.getfield 151, 3) := dk_180 0 151 (dk_at dksX6_advances_3 13 rfl rfl)
theorem dX6_advances_86 : decode cX6_advances 86 = .ok (.invokevirtual 160, 3) := dk_182 0 160 (dk_at dksX6_advances_3 16 rfl rfl)
theorem dX6_advances_89 : decode cX6_advances 89 = .ok (.ifCond .eq 71, 3) := dk_153 0 71 (dk_at dksX6_advances_3 19 rfl rfl)
theorem dX6_advances_92 : decode cX6_advances 92 = .ok (.aload_n 0, 1) := dk_42 (dk_at dksX6_advances_3 22 rfl rfl)
theorem dX6_advances_93 : decode cX6_advances 93 = .ok (.dup, 1) := dk_89 (dk_at dksX6_advances_3 23 rfl rfl)
theorem dX6_advances_94 : decode cX6_advances 94 = .ok (.getfield 151, 3) := dk_180 0 151 (dk_at dksX6_advances_4 0 rfl rfl)
theorem dX6_advances_97 : decode cX6_advances 97 = .ok (.iconst 1, 1) := dk_4 (dk_at dksX6_advances_4 3 rfl rfl)
theorem dX6_advances_98 : decode cX6_advances 98 = .ok (.iadd, 1) := dk_96 (dk_at dksX6_advances_4 4 rfl rfl)
theorem dX6_advances_99 : decode cX6_advances 99 = .ok (.putfield 151, 3) := dk_181 0 151 (dk_at dksX6_advances_4 5 rfl rfl)
theorem dX6_advances_102 : decode cX6_advances 102 = .ok (.goto (-21), 3) := dk_167 255 235 (dk_at dksX6_advances_4 8 rfl rfl)
theorem dX6_advances_105 : decode cX6_advances 105 = .ok (.aload_n 0, 1) := dk_42 (dk_at dksX6_advances_4 11 rfl rfl)
theorem dX6_advances_106 : decode cX6_advances 106 = .ok (.aload_n 0, 1) := dk_42 (dk_at dksX6_advances_4 12 rfl rfl)
theorem dX6_advances_107 : decode cX6_advances 107 = .ok (.getfield 151, 3) := dk_180 0 151 (dk_at dksX6_advances_4 13 rfl rfl)
theorem dX6_advances_110 : decode cX6_advances 110 = .ok (.invokevirtual 164, 3) := dk_182 0 164 (dk_at dksX6_advances_4 16 rfl rfl)
theorem dX6_advances_113 : decode cX6_advances 113 = .ok (.ifCond .eq 32, 3) := dk_153 0 32 (dk_at dksX6_advances_4 19 rfl rfl)
theorem dX6_advances_116 : decode cX6_advances 116 = .ok (.aload_n 0, 1) := dk_42 (dk_at dksX6_advances_4 22 rfl rfl)
theorem dX6_advances_117 : decode cX6_advances 117 = .ok (.iconst 2, 1) := dk_5 (dk_at dksX6_advances_4 23 rfl rfl)
theorem dX6_advances_118 : decode cX6_advances 118 = .ok (.putfield 157, 3) := dk_181 0 157 (dk_at dksX6_advances_5 0 rfl rfl)
theorem dX6_advances_121 : decode cX6_advances 121 = .ok (.aload_n 0, 1) := dk_42 (dk_at dksX6_advances_5 3 rfl rfl)
theorem dX6_advances_122 : decode cX6_advances 122 = .ok (.aload_n 0, 1) := dk_42 (dk_at dksX6_advances_5 4 rfl rfl)
theorem dX6_advances_123 : decode cX6_advances 123 = .ok (.getfield 151, 3) := dk_180 0 151 (dk_at dksX6_advances_5 5 rfl rfl)
theorem dX6_advances_126 : decode cX6_advances 126 = .ok (.invokevirtual 164, 3) := dk_182 0 164 (dk_at dksX6_advances_5 8 rfl rfl)
theorem dX6_advances_129 : decode cX6_advances 129 = .ok (.ifCond .eq 31, 3) := dk_153 0 31 (dk_at dksX6_advances_5 11 rfl rfl)
theorem dX6_advances_132 : decode cX6_advances 132 = .ok (.aload_n 0, 1) := dk_42 (dk_at dksX6_advances_5 14 rfl rfl)
theorem dX6_advances_133 : decode cX6_advances 133 = .ok (.dup, 1) := dk_89 (dk_at dksX6_advances_5 15 rfl rfl)
theorem dX6_advances_134 : decode cX6_advances 134 = .ok (.getfield 151, 3) := dk_180 0 151 (dk_at dksX6_advances_5 16 rfl rfl)
theorem dX6_advances_137 : decode cX6_advances 137 = .ok (.iconst 1, 1) := dk_4 (dk_at dksX6_advances_5 19 rfl rfl)
theorem dX6_advances_138 : decode cX6_advances 138 = .ok (.iadd, 1) := dk_96 (dk_at dksX6_advances_5 20 rfl rfl)
theorem dX6_advances_139 : decode cX6_advances 139 = .ok (.putfield 151, 3) := dk_181 0 151 (dk_at dksX6_advances_5 21 rfl rfl)
theorem dX6_advances_142 : decode cX6_advances 142 = .ok (.goto (-21), 3) := dk_167 255 235 (dk_at dksX6_advances_6 0 rfl rfl)
theorem dX6_advances_145 : decode cX6_advances 145 = .ok (.aload_n 0, 1) := dk_42 (dk_at dksX6_advances_6 3 rfl rfl)
theorem dX6_advances_146 : decode cX6_advances 146 = .ok (.iconst 3, 1) := dk_6 (dk_at dksX6_advances_6 4 rfl rfl)
theorem dX6_advances_147 : decode cX6_advances 147 = .ok (.putfield 157, 3) := dk_181 0 157 (dk_at dksX6_advances_6 5 rfl rfl)
theorem dX6_advances_150 : decode cX6_advances 150 = .ok (.aload_n 0, 1) := dk_42 (dk_at dksX6_advances_6 8 rfl rfl)
theorem dX6_advances_151 : decode cX6_advances 151 = .ok (.dup, 1) := dk_89 (dk_at dksX6_advances_6 9 rfl rfl)
theorem dX6_advances_152 : decode cX6_advances 152 = .ok (.getfield 151, 3) := dk_180 0 151 (dk_at dksX6_advances_6 10 rfl rfl)
theorem dX6_advances_155 : decode cX6_advances 155 = .ok (.iconst 1, 1) := dk_4 (dk_at dksX6_advances_6 13 rfl rfl)
theorem dX6_advances_156 : decode cX6_advances 156 = .ok (.iadd, 1) := dk_96 (dk_at dksX6_advances_6 14 rfl rfl)
theorem dX6_advances_157 : decode cX6_advances 157 = .ok (.putfield 151, 3) := dk_181 0 151 (dk_at dksX6_advances_6 15 rfl rfl)
theorem dX6_advances_160 : decode cX6_advances 160 = .ok (.return_, 1) := dk_177 (dk_at dksX6_advances_6 18 rfl rfl)
abbrev cX6_isLower : ByteArray := prog_12_method_29_code
def yX6_isLower : MethodName := ⟨RX6, "isLower", "(I)Z"⟩
def dkwX6_isLower_1 : List UInt8 := [153, 0, 7, 4, 167, 0, 4, 3, 172]
abbrev dktX6_isLower_1 : List UInt8 := dkwX6_isLower_1 ++ []
def dkwX6_isLower_0 : List UInt8 := [27, 42, 180, 0, 130, 162, 0, 26, 42, 180, 0, 37, 27, 51, 133, 20, 0, 143, 20, 0, 145, 184, 0, 61]
abbrev dktX6_isLower_0 : List UInt8 := dkwX6_isLower_0 ++ dktX6_isLower_1
theorem dksX6_isLower_0 : cX6_isLower.data.toList.drop 0 = dktX6_isLower_0 := by decide +kernel
theorem dksX6_isLower_1 : cX6_isLower.data.toList.drop 24 = dktX6_isLower_1 := dk_seg dksX6_isLower_0 24 rfl rfl
theorem dX6_isLower_0 : decode cX6_isLower 0 = .ok (.iload_n 1, 1) := dk_27 (dk_at dksX6_isLower_0 0 rfl rfl)
theorem dX6_isLower_1 : decode cX6_isLower 1 = .ok (.aload_n 0, 1) := dk_42 (dk_at dksX6_isLower_0 1 rfl rfl)
theorem dX6_isLower_2 : decode cX6_isLower 2 = .ok (.getfield 130, 3) := dk_180 0 130 (dk_at dksX6_isLower_0 2 rfl rfl)
theorem dX6_isLower_5 : decode cX6_isLower 5 = .ok (.if_icmp .ge 26, 3) := dk_162 0 26 (dk_at dksX6_isLower_0 5 rfl rfl)
theorem dX6_isLower_8 : decode cX6_isLower 8 = .ok (.aload_n 0, 1) := dk_42 (dk_at dksX6_isLower_0 8 rfl rfl)
theorem dX6_isLower_9 : decode cX6_isLower 9 = .ok (.getfield 37, 3) := dk_180 0 37 (dk_at dksX6_isLower_0 9 rfl rfl)
theorem dX6_isLower_12 : decode cX6_isLower 12 = .ok (.iload_n 1, 1) := dk_27 (dk_at dksX6_isLower_0 12 rfl rfl)
theorem dX6_isLower_13 : decode cX6_isLower 13 = .ok (.baload, 1) := dk_51 (dk_at dksX6_isLower_0 13 rfl rfl)
theorem dX6_isLower_14 : decode cX6_isLower 14 = .ok (.i2l, 1) := dk_133 (dk_at dksX6_isLower_0 14 rfl rfl)
theorem dX6_isLower_15 : decode cX6_isLower 15 = .ok (.ldc2_w 143, 3) := dk_20 0 143 (dk_at dksX6_isLower_0 15 rfl rfl)
theorem dX6_isLower_18 : decode cX6_isLower 18 = .ok (.ldc2_w 145, 3) := dk_20 0 145 (dk_at dksX6_isLower_0 18 rfl rfl)
theorem dX6_isLower_21 : decode cX6_isLower 21 = .ok (.invokestatic 61, 3) := dk_184 0 61 (dk_at dksX6_isLower_0 21 rfl rfl)
theorem dX6_isLower_24 : decode cX6_isLower 24 = .ok (.ifCond .eq 7, 3) := dk_153 0 7 (dk_at dksX6_isLower_1 0 rfl rfl)
theorem dX6_isLower_27 : decode cX6_isLower 27 = .ok (.iconst 1, 1) := dk_4 (dk_at dksX6_isLower_1 3 rfl rfl)
theorem dX6_isLower_28 : decode cX6_isLower 28 = .ok (.goto 4, 3) := dk_167 0 4 (dk_at dksX6_isLower_1 4 rfl rfl)
theorem dX6_isLower_31 : decode cX6_isLower 31 = .ok (.iconst 0, 1) := dk_3 (dk_at dksX6_isLower_1 7 rfl rfl)
theorem dX6_isLower_32 : decode cX6_isLower 32 = .ok (.ireturn, 1) := dk_172 (dk_at dksX6_isLower_1 8 rfl rfl)
abbrev cX6_isDigit : ByteArray := prog_12_method_30_code
def yX6_isDigit : MethodName := ⟨RX6, "isDigit", "(I)Z"⟩
def dkwX6_isDigit_1 : List UInt8 := [153, 0, 7, 4, 167, 0, 4, 3, 172]
abbrev dktX6_isDigit_1 : List UInt8 := dkwX6_isDigit_1 ++ []
def dkwX6_isDigit_0 : List UInt8 := [27, 42, 180, 0, 130, 162, 0, 26, 42, 180, 0, 37, 27, 51, 133, 20, 0, 147, 20, 0, 149, 184, 0, 61]
abbrev dktX6_isDigit_0 : List UInt8 := dkwX6_isDigit_0 ++ dktX6_isDigit_1
theorem dksX6_isDigit_0 : cX6_isDigit.data.toList.drop 0 = dktX6_isDigit_0 := by decide +kernel
theorem dksX6_isDigit_1 : cX6_isDigit.data.toList.drop 24 = dktX6_isDigit_1 := dk_seg dksX6_isDigit_0 24 rfl rfl
theorem dX6_isDigit_0 : decode cX6_isDigit 0 = .ok (.iload_n 1, 1) := dk_27 (dk_at dksX6_isDigit_0 0 rfl rfl)
theorem dX6_isDigit_1 : decode cX6_isDigit 1 = .ok (.aload_n 0, 1) := dk_42 (dk_at dksX6_isDigit_0 1 rfl rfl)
theorem dX6_isDigit_2 : decode cX6_isDigit 2 = .ok (.getfield 130, 3) := dk_180 0 130 (dk_at dksX6_isDigit_0 2 rfl rfl)
theorem dX6_isDigit_5 : decode cX6_isDigit 5 = .ok (.if_icmp .ge 26, 3) := dk_162 0 26 (dk_at dksX6_isDigit_0 5 rfl rfl)
theorem dX6_isDigit_8 : decode cX6_isDigit 8 = .ok (.aload_n 0, 1) := dk_42 (dk_at dksX6_isDigit_0 8 rfl rfl)
theorem dX6_isDigit_9 : decode cX6_isDigit 9 = .ok (.getfield 37, 3) := dk_180 0 37 (dk_at dksX6_isDigit_0 9 rfl rfl)
theorem dX6_isDigit_12 : decode cX6_isDigit 12 = .ok (.iload_n 1, 1) := dk_27 (dk_at dksX6_isDigit_0 12 rfl rfl)
theorem dX6_isDigit_13 : decode cX6_isDigit 13 = .ok (.baload, 1) := dk_51 (dk_at dksX6_isDigit_0 13 rfl rfl)
theorem dX6_isDigit_14 : decode cX6_isDigit 14 = .ok (.i2l, 1) := dk_133 (dk_at dksX6_isDigit_0 14 rfl rfl)
theorem dX6_isDigit_15 : decode cX6_isDigit 15 = .ok (.ldc2_w 147, 3) := dk_20 0 147 (dk_at dksX6_isDigit_0 15 rfl rfl)
theorem dX6_isDigit_18 : decode cX6_isDigit 18 = .ok (.ldc2_w 149, 3) := dk_20 0 149 (dk_at dksX6_isDigit_0 18 rfl rfl)
theorem dX6_isDigit_21 : decode cX6_isDigit 21 = .ok (.invokestatic 61, 3) := dk_184 0 61 (dk_at dksX6_isDigit_0 21 rfl rfl)
theorem dX6_isDigit_24 : decode cX6_isDigit 24 = .ok (.ifCond .eq 7, 3) := dk_153 0 7 (dk_at dksX6_isDigit_1 0 rfl rfl)
theorem dX6_isDigit_27 : decode cX6_isDigit 27 = .ok (.iconst 1, 1) := dk_4 (dk_at dksX6_isDigit_1 3 rfl rfl)
theorem dX6_isDigit_28 : decode cX6_isDigit 28 = .ok (.goto 4, 3) := dk_167 0 4 (dk_at dksX6_isDigit_1 4 rfl rfl)
theorem dX6_isDigit_31 : decode cX6_isDigit 31 = .ok (.iconst 0, 1) := dk_3 (dk_at dksX6_isDigit_1 7 rfl rfl)
theorem dX6_isDigit_32 : decode cX6_isDigit 32 = .ok (.ireturn, 1) := dk_172 (dk_at dksX6_isDigit_1 8 rfl rfl)
abbrev cX6_readsWord : ByteArray := prog_12_method_33_code
def yX6_readsWord : MethodName := ⟨RX6, "readsWord", "(Ljava/lang/String;)Z"⟩
def dkwX6_readsWord_0 : List UInt8 := [42, 43, 182, 0, 176, 154, 0, 5, 3, 172, 42, 182, 0, 180, 4, 172]
abbrev dktX6_readsWord_0 : List UInt8 := dkwX6_readsWord_0 ++ []
theorem dksX6_readsWord_0 : cX6_readsWord.data.toList.drop 0 = dktX6_readsWord_0 := by decide +kernel
theorem dX6_readsWord_0 : decode cX6_readsWord 0 = .ok (.aload_n 0, 1) := dk_42 (dk_at dksX6_readsWord_0 0 rfl rfl)
theorem dX6_readsWord_1 : decode cX6_readsWord 1 = .ok (.aload_n 1, 1) := dk_43 (dk_at dksX6_readsWord_0 1 rfl rfl)
theorem dX6_readsWord_2 : decode cX6_readsWord 2 = .ok (.invokevirtual 176, 3) := dk_182 0 176 (dk_at dksX6_readsWord_0 2 rfl rfl)
theorem dX6_readsWord_5 : decode cX6_readsWord 5 = .ok (.ifCond .ne 5, 3) := dk_154 0 5 (dk_at dksX6_readsWord_0 5 rfl rfl)
theorem dX6_readsWord_8 : decode cX6_readsWord 8 = .ok (.iconst 0, 1) := dk_3 (dk_at dksX6_readsWord_0 8 rfl rfl)
theorem dX6_readsWord_9 : decode cX6_readsWord 9 = .ok (.ireturn, 1) := dk_172 (dk_at dksX6_readsWord_0 9 rfl rfl)
theorem dX6_readsWord_10 : decode cX6_readsWord 10 = .ok (.aload_n 0, 1) := dk_42 (dk_at dksX6_readsWord_0 10 rfl rfl)
theorem dX6_readsWord_11 : decode cX6_readsWord 11 = .ok (.invokevirtual 180, 3) := dk_182 0 180 (dk_at dksX6_readsWord_0 11 rfl rfl)
theorem dX6_readsWord_14 : decode cX6_readsWord 14 = .ok (.iconst 1, 1) := dk_4 (dk_at dksX6_readsWord_0 14 rfl rfl)
theorem dX6_readsWord_15 : decode cX6_readsWord 15 = .ok (.ireturn, 1) := dk_172 (dk_at dksX6_readsWord_0 15 rfl rfl)
abbrev cX6_isWord : ByteArray := prog_12_method_32_code
def yX6_isWord : MethodName := ⟨RX6, "isWord", "(Ljava/lang/String;)Z"⟩
def dkwX6_isWord_2 : List UInt8 := [28, 182, 0, 172, 159, 0, 5, 3, 172, 132, 2, 1, 167, 255, 224, 4, 172]
abbrev dktX6_isWord_2 : List UInt8 := dkwX6_isWord_2 ++ []
def dkwX6_isWord_1 : List UInt8 := [3, 172, 3, 61, 28, 43, 182, 0, 167, 162, 0, 30, 42, 180, 0, 37, 42, 180, 0, 154, 28, 96, 51, 43]
abbrev dktX6_isWord_1 : List UInt8 := dkwX6_isWord_1 ++ dktX6_isWord_2
def dkwX6_isWord_0 : List UInt8 := [42, 180, 0, 157, 4, 160, 0, 19, 42, 180, 0, 151, 42, 180, 0, 154, 100, 43, 182, 0, 167, 159, 0, 5]
abbrev dktX6_isWord_0 : List UInt8 := dkwX6_isWord_0 ++ dktX6_isWord_1
theorem dksX6_isWord_0 : cX6_isWord.data.toList.drop 0 = dktX6_isWord_0 := by decide +kernel
theorem dksX6_isWord_1 : cX6_isWord.data.toList.drop 24 = dktX6_isWord_1 := dk_seg dksX6_isWord_0 24 rfl rfl
theorem dksX6_isWord_2 : cX6_isWord.data.toList.drop 48 = dktX6_isWord_2 := dk_seg dksX6_isWord_1 24 rfl rfl
theorem dX6_isWord_0 : decode cX6_isWord 0 = .ok (.aload_n 0, 1) := dk_42 (dk_at dksX6_isWord_0 0 rfl rfl)
theorem dX6_isWord_1 : decode cX6_isWord 1 = .ok (.getfield 157, 3) := dk_180 0 157 (dk_at dksX6_isWord_0 1 rfl rfl)
theorem dX6_isWord_4 : decode cX6_isWord 4 = .ok (.iconst 1, 1) := dk_4 (dk_at dksX6_isWord_0 4 rfl rfl)
theorem dX6_isWord_5 : decode cX6_isWord 5 = .ok (.if_icmp .ne 19, 3) := dk_160 0 19 (dk_at dksX6_isWord_0 5 rfl rfl)
theorem dX6_isWord_8 : decode cX6_isWord 8 = .ok (.aload_n 0, 1) := dk_42 (dk_at dksX6_isWord_0 8 rfl rfl)
theorem dX6_isWord_9 : decode cX6_isWord 9 = .ok (.getfield 151, 3) := dk_180 0 151 (dk_at dksX6_isWord_0 9 rfl rfl)
theorem dX6_isWord_12 : decode cX6_isWord 12 = .ok (.aload_n 0, 1) := dk_42 (dk_at dksX6_isWord_0 12 rfl rfl)
theorem dX6_isWord_13 : decode cX6_isWord 13 = .ok (.getfield 154, 3) := dk_180 0 154 (dk_at dksX6_isWord_0 13 rfl rfl)
theorem dX6_isWord_16 : decode cX6_isWord 16 = .ok (.isub, 1) := dk_100 (dk_at dksX6_isWord_0 16 rfl rfl)
theorem dX6_isWord_17 : decode cX6_isWord 17 = .ok (.aload_n 1, 1) := dk_43 (dk_at dksX6_isWord_0 17 rfl rfl)
theorem dX6_isWord_18 : decode cX6_isWord 18 = .ok (.invokevirtual 167, 3) := dk_182 0 167 (dk_at dksX6_isWord_0 18 rfl rfl)
theorem dX6_isWord_21 : decode cX6_isWord 21 = .ok (.if_icmp .eq 5, 3) := dk_159 0 5 (dk_at dksX6_isWord_0 21 rfl rfl)
theorem dX6_isWord_24 : decode cX6_isWord 24 = .ok (.iconst 0, 1) := dk_3 (dk_at dksX6_isWord_1 0 rfl rfl)
theorem dX6_isWord_25 : decode cX6_isWord 25 = .ok (.ireturn, 1) := dk_172 (dk_at dksX6_isWord_1 1 rfl rfl)
theorem dX6_isWord_26 : decode cX6_isWord 26 = .ok (.iconst 0, 1) := dk_3 (dk_at dksX6_isWord_1 2 rfl rfl)
theorem dX6_isWord_27 : decode cX6_isWord 27 = .ok (.istore_n 2, 1) := dk_61 (dk_at dksX6_isWord_1 3 rfl rfl)
theorem dX6_isWord_28 : decode cX6_isWord 28 = .ok (.iload_n 2, 1) := dk_28 (dk_at dksX6_isWord_1 4 rfl rfl)
theorem dX6_isWord_29 : decode cX6_isWord 29 = .ok (.aload_n 1, 1) := dk_43 (dk_at dksX6_isWord_1 5 rfl rfl)
theorem dX6_isWord_30 : decode cX6_isWord 30 = .ok (.invokevirtual 167, 3) := dk_182 0 167 (dk_at dksX6_isWord_1 6 rfl rfl)
theorem dX6_isWord_33 : decode cX6_isWord 33 = .ok (.if_icmp .ge 30, 3) := dk_162 0 30 (dk_at dksX6_isWord_1 9 rfl rfl)
theorem dX6_isWord_36 : decode cX6_isWord 36 = .ok (.aload_n 0, 1) := dk_42 (dk_at dksX6_isWord_1 12 rfl rfl)
theorem dX6_isWord_37 : decode cX6_isWord 37 = .ok (.getfield 37, 3) := dk_180 0 37 (dk_at dksX6_isWord_1 13 rfl rfl)
theorem dX6_isWord_40 : decode cX6_isWord 40 = .ok (.aload_n 0, 1) := dk_42 (dk_at dksX6_isWord_1 16 rfl rfl)
theorem dX6_isWord_41 : decode cX6_isWord 41 = .ok (.getfield 154, 3) := dk_180 0 154 (dk_at dksX6_isWord_1 17 rfl rfl)
theorem dX6_isWord_44 : decode cX6_isWord 44 = .ok (.iload_n 2, 1) := dk_28 (dk_at dksX6_isWord_1 20 rfl rfl)
theorem dX6_isWord_45 : decode cX6_isWord 45 = .ok (.iadd, 1) := dk_96 (dk_at dksX6_isWord_1 21 rfl rfl)
theorem dX6_isWord_46 : decode cX6_isWord 46 = .ok (.baload, 1) := dk_51 (dk_at dksX6_isWord_1 22 rfl rfl)
theorem dX6_isWord_47 : decode cX6_isWord 47 = .ok (.aload_n 1, 1) := dk_43 (dk_at dksX6_isWord_1 23 rfl rfl)
theorem dX6_isWord_48 : decode cX6_isWord 48 = .ok (.iload_n 2, 1) := dk_28 (dk_at dksX6_isWord_2 0 rfl rfl)
theorem dX6_isWord_49 : decode cX6_isWord 49 = .ok (.invokevirtual 172, 3) := dk_182 0 172 (dk_at dksX6_isWord_2 1 rfl rfl)
theorem dX6_isWord_52 : decode cX6_isWord 52 = .ok (.if_icmp .eq 5, 3) := dk_159 0 5 (dk_at dksX6_isWord_2 4 rfl rfl)
theorem dX6_isWord_55 : decode cX6_isWord 55 = .ok (.iconst 0, 1) := dk_3 (dk_at dksX6_isWord_2 7 rfl rfl)
theorem dX6_isWord_56 : decode cX6_isWord 56 = .ok (.ireturn, 1) := dk_172 (dk_at dksX6_isWord_2 8 rfl rfl)
theorem dX6_isWord_57 : decode cX6_isWord 57 = .ok (.iinc 2 1, 3) := dk_132 2 1 (dk_at dksX6_isWord_2 9 rfl rfl)
theorem dX6_isWord_60 : decode cX6_isWord 60 = .ok (.goto (-32), 3) := dk_167 255 224 (dk_at dksX6_isWord_2 12 rfl rfl)
theorem dX6_isWord_63 : decode cX6_isWord 63 = .ok (.iconst 1, 1) := dk_4 (dk_at dksX6_isWord_2 15 rfl rfl)
theorem dX6_isWord_64 : decode cX6_isWord 64 = .ok (.ireturn, 1) := dk_172 (dk_at dksX6_isWord_2 16 rfl rfl)
abbrev cX6_readsNumber : ByteArray := prog_12_method_36_code
def yX6_readsNumber : MethodName := ⟨RX6, "readsNumber", "(II)Z"⟩
def dkwX6_readsNumber_0 : List UInt8 := [42, 27, 28, 182, 0, 186, 154, 0, 5, 3, 172, 42, 182, 0, 180, 4, 172]
abbrev dktX6_readsNumber_0 : List UInt8 := dkwX6_readsNumber_0 ++ []
theorem dksX6_readsNumber_0 : cX6_readsNumber.data.toList.drop 0 = dktX6_readsNumber_0 := by decide +kernel
theorem dX6_readsNumber_0 : decode cX6_readsNumber 0 = .ok (.aload_n 0, 1) := dk_42 (dk_at dksX6_readsNumber_0 0 rfl rfl)
theorem dX6_readsNumber_1 : decode cX6_readsNumber 1 = .ok (.iload_n 1, 1) := dk_27 (dk_at dksX6_readsNumber_0 1 rfl rfl)
theorem dX6_readsNumber_2 : decode cX6_readsNumber 2 = .ok (.iload_n 2, 1) := dk_28 (dk_at dksX6_readsNumber_0 2 rfl rfl)
theorem dX6_readsNumber_3 : decode cX6_readsNumber 3 = .ok (.invokevirtual 186, 3) := dk_182 0 186 (dk_at dksX6_readsNumber_0 3 rfl rfl)
theorem dX6_readsNumber_6 : decode cX6_readsNumber 6 = .ok (.ifCond .ne 5, 3) := dk_154 0 5 (dk_at dksX6_readsNumber_0 6 rfl rfl)
theorem dX6_readsNumber_9 : decode cX6_readsNumber 9 = .ok (.iconst 0, 1) := dk_3 (dk_at dksX6_readsNumber_0 9 rfl rfl)
theorem dX6_readsNumber_10 : decode cX6_readsNumber 10 = .ok (.ireturn, 1) := dk_172 (dk_at dksX6_readsNumber_0 10 rfl rfl)
theorem dX6_readsNumber_11 : decode cX6_readsNumber 11 = .ok (.aload_n 0, 1) := dk_42 (dk_at dksX6_readsNumber_0 11 rfl rfl)
theorem dX6_readsNumber_12 : decode cX6_readsNumber 12 = .ok (.invokevirtual 180, 3) := dk_182 0 180 (dk_at dksX6_readsNumber_0 12 rfl rfl)
theorem dX6_readsNumber_15 : decode cX6_readsNumber 15 = .ok (.iconst 1, 1) := dk_4 (dk_at dksX6_readsNumber_0 15 rfl rfl)
theorem dX6_readsNumber_16 : decode cX6_readsNumber 16 = .ok (.ireturn, 1) := dk_172 (dk_at dksX6_readsNumber_0 16 rfl rfl)
abbrev cX6_isNumber : ByteArray := prog_12_method_35_code
def yX6_isNumber : MethodName := ⟨RX6, "isNumber", "(II)Z"⟩
def dkwX6_isNumber_3 : List UInt8 := [133, 27, 133, 28, 133, 184, 0, 61, 172]
abbrev dktX6_isNumber_3 : List UInt8 := dkwX6_isNumber_3 ++ []
def dkwX6_isNumber_2 : List UInt8 := [104, 42, 180, 0, 37, 29, 51, 96, 16, 48, 100, 181, 0, 183, 132, 3, 1, 167, 255, 224, 42, 180, 0, 183]
abbrev dktX6_isNumber_2 : List UInt8 := dkwX6_isNumber_2 ++ dktX6_isNumber_3
def dkwX6_isNumber_1 : List UInt8 := [3, 181, 0, 183, 42, 180, 0, 154, 62, 29, 42, 180, 0, 151, 162, 0, 30, 42, 16, 10, 42, 180, 0, 183]
abbrev dktX6_isNumber_1 : List UInt8 := dkwX6_isNumber_1 ++ dktX6_isNumber_2
def dkwX6_isNumber_0 : List UInt8 := [42, 180, 0, 157, 5, 160, 0, 16, 42, 180, 0, 151, 42, 180, 0, 154, 100, 6, 164, 0, 5, 3, 172, 42]
abbrev dktX6_isNumber_0 : List UInt8 := dkwX6_isNumber_0 ++ dktX6_isNumber_1
theorem dksX6_isNumber_0 : cX6_isNumber.data.toList.drop 0 = dktX6_isNumber_0 := by decide +kernel
theorem dksX6_isNumber_1 : cX6_isNumber.data.toList.drop 24 = dktX6_isNumber_1 := dk_seg dksX6_isNumber_0 24 rfl rfl
theorem dksX6_isNumber_2 : cX6_isNumber.data.toList.drop 48 = dktX6_isNumber_2 := dk_seg dksX6_isNumber_1 24 rfl rfl
theorem dksX6_isNumber_3 : cX6_isNumber.data.toList.drop 72 = dktX6_isNumber_3 := dk_seg dksX6_isNumber_2 24 rfl rfl
theorem dX6_isNumber_0 : decode cX6_isNumber 0 = .ok (.aload_n 0, 1) := dk_42 (dk_at dksX6_isNumber_0 0 rfl rfl)
theorem dX6_isNumber_1 : decode cX6_isNumber 1 = .ok (.getfield 157, 3) := dk_180 0 157 (dk_at dksX6_isNumber_0 1 rfl rfl)
theorem dX6_isNumber_4 : decode cX6_isNumber 4 = .ok (.iconst 2, 1) := dk_5 (dk_at dksX6_isNumber_0 4 rfl rfl)
theorem dX6_isNumber_5 : decode cX6_isNumber 5 = .ok (.if_icmp .ne 16, 3) := dk_160 0 16 (dk_at dksX6_isNumber_0 5 rfl rfl)
theorem dX6_isNumber_8 : decode cX6_isNumber 8 = .ok (.aload_n 0, 1) := dk_42 (dk_at dksX6_isNumber_0 8 rfl rfl)
theorem dX6_isNumber_9 : decode cX6_isNumber 9 = .ok (.getfield 151, 3) := dk_180 0 151 (dk_at dksX6_isNumber_0 9 rfl rfl)
theorem dX6_isNumber_12 : decode cX6_isNumber 12 = .ok (.aload_n 0, 1) := dk_42 (dk_at dksX6_isNumber_0 12 rfl rfl)
theorem dX6_isNumber_13 : decode cX6_isNumber 13 = .ok (.getfield 154, 3) := dk_180 0 154 (dk_at dksX6_isNumber_0 13 rfl rfl)
theorem dX6_isNumber_16 : decode cX6_isNumber 16 = .ok (.isub, 1) := dk_100 (dk_at dksX6_isNumber_0 16 rfl rfl)
theorem dX6_isNumber_17 : decode cX6_isNumber 17 = .ok (.iconst 3, 1) := dk_6 (dk_at dksX6_isNumber_0 17 rfl rfl)
theorem dX6_isNumber_18 : decode cX6_isNumber 18 = .ok (.if_icmp .le 5, 3) := dk_164 0 5 (dk_at dksX6_isNumber_0 18 rfl rfl)
theorem dX6_isNumber_21 : decode cX6_isNumber 21 = .ok (.iconst 0, 1) := dk_3 (dk_at dksX6_isNumber_0 21 rfl rfl)
theorem dX6_isNumber_22 : decode cX6_isNumber 22 = .ok (.ireturn, 1) := dk_172 (dk_at dksX6_isNumber_0 22 rfl rfl)
theorem dX6_isNumber_23 : decode cX6_isNumber 23 = .ok (.aload_n 0, 1) := dk_42 (dk_at dksX6_isNumber_0 23 rfl rfl)
theorem dX6_isNumber_24 : decode cX6_isNumber 24 = .ok (.iconst 0, 1) := dk_3 (dk_at dksX6_isNumber_1 0 rfl rfl)
theorem dX6_isNumber_25 : decode cX6_isNumber 25 = .ok (.putfield 183, 3) := dk_181 0 183 (dk_at dksX6_isNumber_1 1 rfl rfl)
theorem dX6_isNumber_28 : decode cX6_isNumber 28 = .ok (.aload_n 0, 1) := dk_42 (dk_at dksX6_isNumber_1 4 rfl rfl)
theorem dX6_isNumber_29 : decode cX6_isNumber 29 = .ok (.getfield 154, 3) := dk_180 0 154 (dk_at dksX6_isNumber_1 5 rfl rfl)
theorem dX6_isNumber_32 : decode cX6_isNumber 32 = .ok (.istore_n 3, 1) := dk_62 (dk_at dksX6_isNumber_1 8 rfl rfl)
theorem dX6_isNumber_33 : decode cX6_isNumber 33 = .ok (.iload_n 3, 1) := dk_29 (dk_at dksX6_isNumber_1 9 rfl rfl)
theorem dX6_isNumber_34 : decode cX6_isNumber 34 = .ok (.aload_n 0, 1) := dk_42 (dk_at dksX6_isNumber_1 10 rfl rfl)
theorem dX6_isNumber_35 : decode cX6_isNumber 35 = .ok (.getfield 151, 3) := dk_180 0 151 (dk_at dksX6_isNumber_1 11 rfl rfl)
theorem dX6_isNumber_38 : decode cX6_isNumber 38 = .ok (.if_icmp .ge 30, 3) := dk_162 0 30 (dk_at dksX6_isNumber_1 14 rfl rfl)
theorem dX6_isNumber_41 : decode cX6_isNumber 41 = .ok (.aload_n 0, 1) := dk_42 (dk_at dksX6_isNumber_1 17 rfl rfl)
theorem dX6_isNumber_42 : decode cX6_isNumber 42 = .ok (.bipush 10, 2) := dk_16 10 (dk_at dksX6_isNumber_1 18 rfl rfl)
theorem dX6_isNumber_44 : decode cX6_isNumber 44 = .ok (.aload_n 0, 1) := dk_42 (dk_at dksX6_isNumber_1 20 rfl rfl)
theorem dX6_isNumber_45 : decode cX6_isNumber 45 = .ok (.getfield 183, 3) := dk_180 0 183 (dk_at dksX6_isNumber_1 21 rfl rfl)
theorem dX6_isNumber_48 : decode cX6_isNumber 48 = .ok (.imul, 1) := dk_104 (dk_at dksX6_isNumber_2 0 rfl rfl)
theorem dX6_isNumber_49 : decode cX6_isNumber 49 = .ok (.aload_n 0, 1) := dk_42 (dk_at dksX6_isNumber_2 1 rfl rfl)
theorem dX6_isNumber_50 : decode cX6_isNumber 50 = .ok (.getfield 37, 3) := dk_180 0 37 (dk_at dksX6_isNumber_2 2 rfl rfl)
theorem dX6_isNumber_53 : decode cX6_isNumber 53 = .ok (.iload_n 3, 1) := dk_29 (dk_at dksX6_isNumber_2 5 rfl rfl)
theorem dX6_isNumber_54 : decode cX6_isNumber 54 = .ok (.baload, 1) := dk_51 (dk_at dksX6_isNumber_2 6 rfl rfl)
theorem dX6_isNumber_55 : decode cX6_isNumber 55 = .ok (.iadd, 1) := dk_96 (dk_at dksX6_isNumber_2 7 rfl rfl)
theorem dX6_isNumber_56 : decode cX6_isNumber 56 = .ok (.bipush 48, 2) := dk_16 48 (dk_at dksX6_isNumber_2 8 rfl rfl)
theorem dX6_isNumber_58 : decode cX6_isNumber 58 = .ok (.isub, 1) := dk_100 (dk_at dksX6_isNumber_2 10 rfl rfl)
theorem dX6_isNumber_59 : decode cX6_isNumber 59 = .ok (.putfield 183, 3) := dk_181 0 183 (dk_at dksX6_isNumber_2 11 rfl rfl)
theorem dX6_isNumber_62 : decode cX6_isNumber 62 = .ok (.iinc 3 1, 3) := dk_132 3 1 (dk_at dksX6_isNumber_2 14 rfl rfl)
theorem dX6_isNumber_65 : decode cX6_isNumber 65 = .ok (.goto (-32), 3) := dk_167 255 224 (dk_at dksX6_isNumber_2 17 rfl rfl)
theorem dX6_isNumber_68 : decode cX6_isNumber 68 = .ok (.aload_n 0, 1) := dk_42 (dk_at dksX6_isNumber_2 20 rfl rfl)
theorem dX6_isNumber_69 : decode cX6_isNumber 69 = .ok (.getfield 183, 3) := dk_180 0 183 (dk_at dksX6_isNumber_2 21 rfl rfl)
theorem dX6_isNumber_72 : decode cX6_isNumber 72 = .ok (.i2l, 1) := dk_133 (dk_at dksX6_isNumber_3 0 rfl rfl)
theorem dX6_isNumber_73 : decode cX6_isNumber 73 = .ok (.iload_n 1, 1) := dk_27 (dk_at dksX6_isNumber_3 1 rfl rfl)
theorem dX6_isNumber_74 : decode cX6_isNumber 74 = .ok (.i2l, 1) := dk_133 (dk_at dksX6_isNumber_3 2 rfl rfl)
theorem dX6_isNumber_75 : decode cX6_isNumber 75 = .ok (.iload_n 2, 1) := dk_28 (dk_at dksX6_isNumber_3 3 rfl rfl)
theorem dX6_isNumber_76 : decode cX6_isNumber 76 = .ok (.i2l, 1) := dk_133 (dk_at dksX6_isNumber_3 4 rfl rfl)
theorem dX6_isNumber_77 : decode cX6_isNumber 77 = .ok (.invokestatic 61, 3) := dk_184 0 61 (dk_at dksX6_isNumber_3 5 rfl rfl)
theorem dX6_isNumber_80 : decode cX6_isNumber 80 = .ok (.ireturn, 1) := dk_172 (dk_at dksX6_isNumber_3 8 rfl rfl)
abbrev cX6_isSign : ByteArray := prog_12_method_34_code
def yX6_isSign : MethodName := ⟨RX6, "isSign", "(I)Z"⟩
def dkwX6_isSign_1 : List UInt8 := [167, 0, 4, 3, 172]
abbrev dktX6_isSign_1 : List UInt8 := dkwX6_isSign_1 ++ []
def dkwX6_isSign_0 : List UInt8 := [42, 180, 0, 157, 6, 160, 0, 20, 42, 180, 0, 37, 42, 180, 0, 154, 51, 27, 160, 0, 7, 4]
abbrev dktX6_isSign_0 : List UInt8 := dkwX6_isSign_0 ++ dktX6_isSign_1
theorem dksX6_isSign_0 : cX6_isSign.data.toList.drop 0 = dktX6_isSign_0 := by decide +kernel
theorem dksX6_isSign_1 : cX6_isSign.data.toList.drop 22 = dktX6_isSign_1 := dk_seg dksX6_isSign_0 22 rfl rfl
theorem dX6_isSign_0 : decode cX6_isSign 0 = .ok (.aload_n 0, 1) := dk_42 (dk_at dksX6_isSign_0 0 rfl rfl)
theorem dX6_isSign_1 : decode cX6_isSign 1 = .ok (.getfield 157, 3) := dk_180 0 157 (dk_at dksX6_isSign_0 1 rfl rfl)
theorem dX6_isSign_4 : decode cX6_isSign 4 = .ok (.iconst 3, 1) := dk_6 (dk_at dksX6_isSign_0 4 rfl rfl)
theorem dX6_isSign_5 : decode cX6_isSign 5 = .ok (.if_icmp .ne 20, 3) := dk_160 0 20 (dk_at dksX6_isSign_0 5 rfl rfl)
theorem dX6_isSign_8 : decode cX6_isSign 8 = .ok (.aload_n 0, 1) := dk_42 (dk_at dksX6_isSign_0 8 rfl rfl)
theorem dX6_isSign_9 : decode cX6_isSign 9 = .ok (.getfield 37, 3) := dk_180 0 37 (dk_at dksX6_isSign_0 9 rfl rfl)
theorem dX6_isSign_12 : decode cX6_isSign 12 = .ok (.aload_n 0, 1) := dk_42 (dk_at dksX6_isSign_0 12 rfl rfl)
theorem dX6_isSign_13 : decode cX6_isSign 13 = .ok (.getfield 154, 3) := dk_180 0 154 (dk_at dksX6_isSign_0 13 rfl rfl)
theorem dX6_isSign_16 : decode cX6_isSign 16 = .ok (.baload, 1) := dk_51 (dk_at dksX6_isSign_0 16 rfl rfl)
theorem dX6_isSign_17 : decode cX6_isSign 17 = .ok (.iload_n 1, 1) := dk_27 (dk_at dksX6_isSign_0 17 rfl rfl)
theorem dX6_isSign_18 : decode cX6_isSign 18 = .ok (.if_icmp .ne 7, 3) := dk_160 0 7 (dk_at dksX6_isSign_0 18 rfl rfl)
theorem dX6_isSign_21 : decode cX6_isSign 21 = .ok (.iconst 1, 1) := dk_4 (dk_at dksX6_isSign_0 21 rfl rfl)
theorem dX6_isSign_22 : decode cX6_isSign 22 = .ok (.goto 4, 3) := dk_167 0 4 (dk_at dksX6_isSign_1 0 rfl rfl)
theorem dX6_isSign_25 : decode cX6_isSign 25 = .ok (.iconst 0, 1) := dk_3 (dk_at dksX6_isSign_1 3 rfl rfl)
theorem dX6_isSign_26 : decode cX6_isSign 26 = .ok (.ireturn, 1) := dk_172 (dk_at dksX6_isSign_1 4 rfl rfl)
abbrev cX6_partAt : ByteArray := prog_12_method_40_code
def yX6_partAt : MethodName := ⟨RX6, "partAt", "()I"⟩
def dkwX6_partAt_3 : List UInt8 := [182, 0, 176, 153, 0, 7, 8, 167, 0, 4, 2, 172]
abbrev dktX6_partAt_3 : List UInt8 := dkwX6_partAt_3 ++ []
def dkwX6_partAt_2 : List UInt8 := [153, 0, 7, 6, 167, 0, 30, 42, 18, 220, 182, 0, 176, 153, 0, 7, 7, 167, 0, 17, 42, 18, 222]
abbrev dktX6_partAt_2 : List UInt8 := dkwX6_partAt_2 ++ dktX6_partAt_3
def dkwX6_partAt_1 : List UInt8 := [167, 0, 56, 42, 18, 216, 182, 0, 176, 153, 0, 7, 5, 167, 0, 43, 42, 18, 218, 182, 0, 176]
abbrev dktX6_partAt_1 : List UInt8 := dkwX6_partAt_1 ++ dktX6_partAt_2
def dkwX6_partAt_0 : List UInt8 := [42, 18, 212, 182, 0, 176, 153, 0, 7, 3, 167, 0, 69, 42, 18, 214, 182, 0, 176, 153, 0, 7, 4]
abbrev dktX6_partAt_0 : List UInt8 := dkwX6_partAt_0 ++ dktX6_partAt_1
theorem dksX6_partAt_0 : cX6_partAt.data.toList.drop 0 = dktX6_partAt_0 := by decide +kernel
theorem dksX6_partAt_1 : cX6_partAt.data.toList.drop 23 = dktX6_partAt_1 := dk_seg dksX6_partAt_0 23 rfl rfl
theorem dksX6_partAt_2 : cX6_partAt.data.toList.drop 45 = dktX6_partAt_2 := dk_seg dksX6_partAt_1 22 rfl rfl
theorem dksX6_partAt_3 : cX6_partAt.data.toList.drop 68 = dktX6_partAt_3 := dk_seg dksX6_partAt_2 23 rfl rfl
theorem dX6_partAt_0 : decode cX6_partAt 0 = .ok (.aload_n 0, 1) := dk_42 (dk_at dksX6_partAt_0 0 rfl rfl)
theorem dX6_partAt_1 : decode cX6_partAt 1 = .ok (.ldc 212, 2) := dk_18 212 (dk_at dksX6_partAt_0 1 rfl rfl)
theorem dX6_partAt_3 : decode cX6_partAt 3 = .ok (.invokevirtual 176, 3) := dk_182 0 176 (dk_at dksX6_partAt_0 3 rfl rfl)
theorem dX6_partAt_6 : decode cX6_partAt 6 = .ok (.ifCond .eq 7, 3) := dk_153 0 7 (dk_at dksX6_partAt_0 6 rfl rfl)
theorem dX6_partAt_9 : decode cX6_partAt 9 = .ok (.iconst 0, 1) := dk_3 (dk_at dksX6_partAt_0 9 rfl rfl)
theorem dX6_partAt_10 : decode cX6_partAt 10 = .ok (.goto 69, 3) := dk_167 0 69 (dk_at dksX6_partAt_0 10 rfl rfl)
theorem dX6_partAt_13 : decode cX6_partAt 13 = .ok (.aload_n 0, 1) := dk_42 (dk_at dksX6_partAt_0 13 rfl rfl)
theorem dX6_partAt_14 : decode cX6_partAt 14 = .ok (.ldc 214, 2) := dk_18 214 (dk_at dksX6_partAt_0 14 rfl rfl)
theorem dX6_partAt_16 : decode cX6_partAt 16 = .ok (.invokevirtual 176, 3) := dk_182 0 176 (dk_at dksX6_partAt_0 16 rfl rfl)
theorem dX6_partAt_19 : decode cX6_partAt 19 = .ok (.ifCond .eq 7, 3) := dk_153 0 7 (dk_at dksX6_partAt_0 19 rfl rfl)
theorem dX6_partAt_22 : decode cX6_partAt 22 = .ok (.iconst 1, 1) := dk_4 (dk_at dksX6_partAt_0 22 rfl rfl)
theorem dX6_partAt_23 : decode cX6_partAt 23 = .ok (.goto 56, 3) := dk_167 0 56 (dk_at dksX6_partAt_1 0 rfl rfl)
theorem dX6_partAt_26 : decode cX6_partAt 26 = .ok (.aload_n 0, 1) := dk_42 (dk_at dksX6_partAt_1 3 rfl rfl)
theorem dX6_partAt_27 : decode cX6_partAt 27 = .ok (.ldc 216, 2) := dk_18 216 (dk_at dksX6_partAt_1 4 rfl rfl)
theorem dX6_partAt_29 : decode cX6_partAt 29 = .ok (.invokevirtual 176, 3) := dk_182 0 176 (dk_at dksX6_partAt_1 6 rfl rfl)
theorem dX6_partAt_32 : decode cX6_partAt 32 = .ok (.ifCond .eq 7, 3) := dk_153 0 7 (dk_at dksX6_partAt_1 9 rfl rfl)
theorem dX6_partAt_35 : decode cX6_partAt 35 = .ok (.iconst 2, 1) := dk_5 (dk_at dksX6_partAt_1 12 rfl rfl)
theorem dX6_partAt_36 : decode cX6_partAt 36 = .ok (.goto 43, 3) := dk_167 0 43 (dk_at dksX6_partAt_1 13 rfl rfl)
theorem dX6_partAt_39 : decode cX6_partAt 39 = .ok (.aload_n 0, 1) := dk_42 (dk_at dksX6_partAt_1 16 rfl rfl)
theorem dX6_partAt_40 : decode cX6_partAt 40 = .ok (.ldc 218, 2) := dk_18 218 (dk_at dksX6_partAt_1 17 rfl rfl)
theorem dX6_partAt_42 : decode cX6_partAt 42 = .ok (.invokevirtual 176, 3) := dk_182 0 176 (dk_at dksX6_partAt_1 19 rfl rfl)
theorem dX6_partAt_45 : decode cX6_partAt 45 = .ok (.ifCond .eq 7, 3) := dk_153 0 7 (dk_at dksX6_partAt_2 0 rfl rfl)
theorem dX6_partAt_48 : decode cX6_partAt 48 = .ok (.iconst 3, 1) := dk_6 (dk_at dksX6_partAt_2 3 rfl rfl)
theorem dX6_partAt_49 : decode cX6_partAt 49 = .ok (.goto 30, 3) := dk_167 0 30 (dk_at dksX6_partAt_2 4 rfl rfl)
theorem dX6_partAt_52 : decode cX6_partAt 52 = .ok (.aload_n 0, 1) := dk_42 (dk_at dksX6_partAt_2 7 rfl rfl)
theorem dX6_partAt_53 : decode cX6_partAt 53 = .ok (.ldc 220, 2) := dk_18 220 (dk_at dksX6_partAt_2 8 rfl rfl)
theorem dX6_partAt_55 : decode cX6_partAt 55 = .ok (.invokevirtual 176, 3) := dk_182 0 176 (dk_at dksX6_partAt_2 10 rfl rfl)
theorem dX6_partAt_58 : decode cX6_partAt 58 = .ok (.ifCond .eq 7, 3) := dk_153 0 7 (dk_at dksX6_partAt_2 13 rfl rfl)
theorem dX6_partAt_61 : decode cX6_partAt 61 = .ok (.iconst 4, 1) := dk_7 (dk_at dksX6_partAt_2 16 rfl rfl)
theorem dX6_partAt_62 : decode cX6_partAt 62 = .ok (.goto 17, 3) := dk_167 0 17 (dk_at dksX6_partAt_2 17 rfl rfl)
theorem dX6_partAt_65 : decode cX6_partAt 65 = .ok (.aload_n 0, 1) := dk_42 (dk_at dksX6_partAt_2 20 rfl rfl)
theorem dX6_partAt_66 : decode cX6_partAt 66 = .ok (.ldc 222, 2) := dk_18 222 (dk_at dksX6_partAt_2 21 rfl rfl)
theorem dX6_partAt_68 : decode cX6_partAt 68 = .ok (.invokevirtual 176, 3) := dk_182 0 176 (dk_at dksX6_partAt_3 0 rfl rfl)
theorem dX6_partAt_71 : decode cX6_partAt 71 = .ok (.ifCond .eq 7, 3) := dk_153 0 7 (dk_at dksX6_partAt_3 3 rfl rfl)
theorem dX6_partAt_74 : decode cX6_partAt 74 = .ok (.iconst 5, 1) := dk_8 (dk_at dksX6_partAt_3 6 rfl rfl)
theorem dX6_partAt_75 : decode cX6_partAt 75 = .ok (.goto 4, 3) := dk_167 0 4 (dk_at dksX6_partAt_3 7 rfl rfl)
theorem dX6_partAt_78 : decode cX6_partAt 78 = .ok (.iconst (-1), 1) := dk_2 (dk_at dksX6_partAt_3 10 rfl rfl)
theorem dX6_partAt_79 : decode cX6_partAt 79 = .ok (.ireturn, 1) := dk_172 (dk_at dksX6_partAt_3 11 rfl rfl)
abbrev cX6_readsPart : ByteArray := prog_12_method_41_code
def yX6_readsPart : MethodName := ⟨RX6, "readsPart", "(II)Z"⟩
def dkwX6_readsPart_4 : List UInt8 := [172, 42, 16, 66, 28, 182, 0, 227, 172]
abbrev dktX6_readsPart_4 : List UInt8 := dkwX6_readsPart_4 ++ []
def dkwX6_readsPart_3 : List UInt8 := [182, 0, 193, 62, 42, 180, 0, 20, 16, 53, 42, 180, 0, 183, 79, 29, 172, 42, 16, 54, 28, 182, 0, 227]
abbrev dktX6_readsPart_3 : List UInt8 := dkwX6_readsPart_3 ++ dktX6_readsPart_4
def dkwX6_readsPart_2 : List UInt8 := [42, 28, 182, 0, 224, 172, 42, 16, 51, 182, 0, 209, 172, 42, 16, 52, 182, 0, 209, 172, 42, 3, 16, 12]
abbrev dktX6_readsPart_2 : List UInt8 := dkwX6_readsPart_2 ++ dktX6_readsPart_3
def dkwX6_readsPart_1 : List UInt8 := [170, 0, 0, 0, 0, 0, 84, 0, 0, 0, 0, 0, 0, 0, 4, 0, 0, 0, 35, 0, 0, 0, 41, 0, 0, 0, 48, 0, 0, 0, 55, 0, 0, 0, 76]
abbrev dktX6_readsPart_1 : List UInt8 := dkwX6_readsPart_1 ++ dktX6_readsPart_2
def dkwX6_readsPart_0 : List UInt8 := [27]
abbrev dktX6_readsPart_0 : List UInt8 := dkwX6_readsPart_0 ++ dktX6_readsPart_1
theorem dksX6_readsPart_0 : cX6_readsPart.data.toList.drop 0 = dktX6_readsPart_0 := by decide +kernel
theorem dksX6_readsPart_1 : cX6_readsPart.data.toList.drop 1 = dktX6_readsPart_1 := dk_seg dksX6_readsPart_0 1 rfl rfl
theorem dksX6_readsPart_2 : cX6_readsPart.data.toList.drop 36 = dktX6_readsPart_2 := dk_seg dksX6_readsPart_1 35 rfl rfl
theorem dksX6_readsPart_3 : cX6_readsPart.data.toList.drop 60 = dktX6_readsPart_3 := dk_seg dksX6_readsPart_2 24 rfl rfl
theorem dksX6_readsPart_4 : cX6_readsPart.data.toList.drop 84 = dktX6_readsPart_4 := dk_seg dksX6_readsPart_3 24 rfl rfl
theorem dX6_readsPart_0 : decode cX6_readsPart 0 = .ok (.iload_n 1, 1) := dk_27 (dk_at dksX6_readsPart_0 0 rfl rfl)
theorem dX6_readsPart_1 : decode cX6_readsPart 1 = .ok (.tableswitch 84 0 4 #[35, 41, 48, 55, 76], 35) := by decide +kernel
theorem dX6_readsPart_36 : decode cX6_readsPart 36 = .ok (.aload_n 0, 1) := dk_42 (dk_at dksX6_readsPart_2 0 rfl rfl)
theorem dX6_readsPart_37 : decode cX6_readsPart 37 = .ok (.iload_n 2, 1) := dk_28 (dk_at dksX6_readsPart_2 1 rfl rfl)
theorem dX6_readsPart_38 : decode cX6_readsPart 38 = .ok (.invokevirtual 224, 3) := dk_182 0 224 (dk_at dksX6_readsPart_2 2 rfl rfl)
theorem dX6_readsPart_41 : decode cX6_readsPart 41 = .ok (.ireturn, 1) := dk_172 (dk_at dksX6_readsPart_2 5 rfl rfl)
theorem dX6_readsPart_42 : decode cX6_readsPart 42 = .ok (.aload_n 0, 1) := dk_42 (dk_at dksX6_readsPart_2 6 rfl rfl)
theorem dX6_readsPart_43 : decode cX6_readsPart 43 = .ok (.bipush 51, 2) := dk_16 51 (dk_at dksX6_readsPart_2 7 rfl rfl)
theorem dX6_readsPart_45 : decode cX6_readsPart 45 = .ok (.invokevirtual 209, 3) := dk_182 0 209 (dk_at dksX6_readsPart_2 9 rfl rfl)
theorem dX6_readsPart_48 : decode cX6_readsPart 48 = .ok (.ireturn, 1) := dk_172 (dk_at dksX6_readsPart_2 12 rfl rfl)
theorem dX6_readsPart_49 : decode cX6_readsPart 49 = .ok (.aload_n 0, 1) := dk_42 (dk_at dksX6_readsPart_2 13 rfl rfl)
theorem dX6_readsPart_50 : decode cX6_readsPart 50 = .ok (.bipush 52, 2) := dk_16 52 (dk_at dksX6_readsPart_2 14 rfl rfl)
theorem dX6_readsPart_52 : decode cX6_readsPart 52 = .ok (.invokevirtual 209, 3) := dk_182 0 209 (dk_at dksX6_readsPart_2 16 rfl rfl)
theorem dX6_readsPart_55 : decode cX6_readsPart 55 = .ok (.ireturn, 1) := dk_172 (dk_at dksX6_readsPart_2 19 rfl rfl)
theorem dX6_readsPart_56 : decode cX6_readsPart 56 = .ok (.aload_n 0, 1) := dk_42 (dk_at dksX6_readsPart_2 20 rfl rfl)
theorem dX6_readsPart_57 : decode cX6_readsPart 57 = .ok (.iconst 0, 1) := dk_3 (dk_at dksX6_readsPart_2 21 rfl rfl)
theorem dX6_readsPart_58 : decode cX6_readsPart 58 = .ok (.bipush 12, 2) := dk_16 12 (dk_at dksX6_readsPart_2 22 rfl rfl)
theorem dX6_readsPart_60 : decode cX6_readsPart 60 = .ok (.invokevirtual 193, 3) := dk_182 0 193 (dk_at dksX6_readsPart_3 0 rfl rfl)
theorem dX6_readsPart_63 : decode cX6_readsPart 63 = .ok (.istore_n 3, 1) := dk_62 (dk_at dksX6_readsPart_3 3 rfl rfl)
theorem dX6_readsPart_64 : decode cX6_readsPart 64 = .ok (.aload_n 0, 1) := dk_42 (dk_at dksX6_readsPart_3 4 rfl rfl)
theorem dX6_readsPart_65 : decode cX6_readsPart 65 = .ok (.getfield 20, 3) := dk_180 0 20 (dk_at dksX6_readsPart_3 5 rfl rfl)
theorem dX6_readsPart_68 : decode cX6_readsPart 68 = .ok (.bipush 53, 2) := dk_16 53 (dk_at dksX6_readsPart_3 8 rfl rfl)
theorem dX6_readsPart_70 : decode cX6_readsPart 70 = .ok (.aload_n 0, 1) := dk_42 (dk_at dksX6_readsPart_3 10 rfl rfl)
theorem dX6_readsPart_71 : decode cX6_readsPart 71 = .ok (.getfield 183, 3) := dk_180 0 183 (dk_at dksX6_readsPart_3 11 rfl rfl)
theorem dX6_readsPart_74 : decode cX6_readsPart 74 = .ok (.iastore, 1) := dk_79 (dk_at dksX6_readsPart_3 14 rfl rfl)
theorem dX6_readsPart_75 : decode cX6_readsPart 75 = .ok (.iload_n 3, 1) := dk_29 (dk_at dksX6_readsPart_3 15 rfl rfl)
theorem dX6_readsPart_76 : decode cX6_readsPart 76 = .ok (.ireturn, 1) := dk_172 (dk_at dksX6_readsPart_3 16 rfl rfl)
theorem dX6_readsPart_77 : decode cX6_readsPart 77 = .ok (.aload_n 0, 1) := dk_42 (dk_at dksX6_readsPart_3 17 rfl rfl)
theorem dX6_readsPart_78 : decode cX6_readsPart 78 = .ok (.bipush 54, 2) := dk_16 54 (dk_at dksX6_readsPart_3 18 rfl rfl)
theorem dX6_readsPart_80 : decode cX6_readsPart 80 = .ok (.iload_n 2, 1) := dk_28 (dk_at dksX6_readsPart_3 20 rfl rfl)
theorem dX6_readsPart_81 : decode cX6_readsPart 81 = .ok (.invokevirtual 227, 3) := dk_182 0 227 (dk_at dksX6_readsPart_3 21 rfl rfl)
theorem dX6_readsPart_84 : decode cX6_readsPart 84 = .ok (.ireturn, 1) := dk_172 (dk_at dksX6_readsPart_4 0 rfl rfl)
theorem dX6_readsPart_85 : decode cX6_readsPart 85 = .ok (.aload_n 0, 1) := dk_42 (dk_at dksX6_readsPart_4 1 rfl rfl)
theorem dX6_readsPart_86 : decode cX6_readsPart 86 = .ok (.bipush 66, 2) := dk_16 66 (dk_at dksX6_readsPart_4 2 rfl rfl)
theorem dX6_readsPart_88 : decode cX6_readsPart 88 = .ok (.iload_n 2, 1) := dk_28 (dk_at dksX6_readsPart_4 4 rfl rfl)
theorem dX6_readsPart_89 : decode cX6_readsPart 89 = .ok (.invokevirtual 227, 3) := dk_182 0 227 (dk_at dksX6_readsPart_4 5 rfl rfl)
theorem dX6_readsPart_92 : decode cX6_readsPart 92 = .ok (.ireturn, 1) := dk_172 (dk_at dksX6_readsPart_4 8 rfl rfl)
abbrev cX6_readsInn : ByteArray := prog_12_method_38_code
def yX6_readsInn : MethodName := ⟨RX6, "readsInn", "(I)Z"⟩
def dkwX6_readsInn_5 : List UInt8 := [182, 0, 193, 154, 0, 5, 3, 172, 42, 180, 0, 20, 16, 39, 28, 96, 42, 180, 0, 183, 79, 4, 172]
abbrev dktX6_readsInn_5 : List UInt8 := dkwX6_readsInn_5 ++ []
def dkwX6_readsInn_4 : List UInt8 := [182, 0, 176, 153, 0, 7, 42, 182, 0, 180, 42, 18, 204, 182, 0, 206, 153, 0, 28, 42, 4, 16, 99]
abbrev dktX6_readsInn_4 : List UInt8 := dkwX6_readsInn_4 ++ dktX6_readsInn_5
def dkwX6_readsInn_3 : List UInt8 := [16, 27, 28, 96, 42, 18, 202, 182, 0, 176, 153, 0, 7, 3, 167, 0, 4, 4, 79, 42, 18, 202]
abbrev dktX6_readsInn_3 : List UInt8 := dkwX6_readsInn_3 ++ dktX6_readsInn_4
def dkwX6_readsInn_2 : List UInt8 := [180, 0, 20, 28, 42, 180, 0, 183, 184, 0, 44, 42, 28, 181, 0, 199, 42, 182, 0, 180, 42, 180, 0, 20]
abbrev dktX6_readsInn_2 : List UInt8 := dkwX6_readsInn_2 ++ dktX6_readsInn_3
def dkwX6_readsInn_1 : List UInt8 := [182, 0, 186, 153, 0, 18, 42, 180, 0, 20, 42, 180, 0, 183, 184, 0, 196, 2, 159, 0, 5, 3, 172, 42]
abbrev dktX6_readsInn_1 : List UInt8 := dkwX6_readsInn_1 ++ dktX6_readsInn_2
def dkwX6_readsInn_0 : List UInt8 := [42, 27, 4, 96, 16, 11, 182, 0, 193, 154, 0, 5, 3, 172, 42, 180, 0, 183, 61, 42, 3, 17, 3, 231]
abbrev dktX6_readsInn_0 : List UInt8 := dkwX6_readsInn_0 ++ dktX6_readsInn_1
theorem dksX6_readsInn_0 : cX6_readsInn.data.toList.drop 0 = dktX6_readsInn_0 := by decide +kernel
theorem dksX6_readsInn_1 : cX6_readsInn.data.toList.drop 24 = dktX6_readsInn_1 := dk_seg dksX6_readsInn_0 24 rfl rfl
theorem dksX6_readsInn_2 : cX6_readsInn.data.toList.drop 48 = dktX6_readsInn_2 := dk_seg dksX6_readsInn_1 24 rfl rfl
theorem dksX6_readsInn_3 : cX6_readsInn.data.toList.drop 72 = dktX6_readsInn_3 := dk_seg dksX6_readsInn_2 24 rfl rfl
theorem dksX6_readsInn_4 : cX6_readsInn.data.toList.drop 94 = dktX6_readsInn_4 := dk_seg dksX6_readsInn_3 22 rfl rfl
theorem dksX6_readsInn_5 : cX6_readsInn.data.toList.drop 117 = dktX6_readsInn_5 := dk_seg dksX6_readsInn_4 23 rfl rfl
theorem dX6_readsInn_0 : decode cX6_readsInn 0 = .ok (.aload_n 0, 1) := dk_42 (dk_at dksX6_readsInn_0 0 rfl rfl)
theorem dX6_readsInn_1 : decode cX6_readsInn 1 = .ok (.iload_n 1, 1) := dk_27 (dk_at dksX6_readsInn_0 1 rfl rfl)
theorem dX6_readsInn_2 : decode cX6_readsInn 2 = .ok (.iconst 1, 1) := dk_4 (dk_at dksX6_readsInn_0 2 rfl rfl)
theorem dX6_readsInn_3 : decode cX6_readsInn 3 = .ok (.iadd, 1) := dk_96 (dk_at dksX6_readsInn_0 3 rfl rfl)
theorem dX6_readsInn_4 : decode cX6_readsInn 4 = .ok (.bipush 11, 2) := dk_16 11 (dk_at dksX6_readsInn_0 4 rfl rfl)
theorem dX6_readsInn_6 : decode cX6_readsInn 6 = .ok (.invokevirtual 193, 3) := dk_182 0 193 (dk_at dksX6_readsInn_0 6 rfl rfl)
theorem dX6_readsInn_9 : decode cX6_readsInn 9 = .ok (.ifCond .ne 5, 3) := dk_154 0 5 (dk_at dksX6_readsInn_0 9 rfl rfl)
theorem dX6_readsInn_12 : decode cX6_readsInn 12 = .ok (.iconst 0, 1) := dk_3 (dk_at dksX6_readsInn_0 12 rfl rfl)
theorem dX6_readsInn_13 : decode cX6_readsInn 13 = .ok (.ireturn, 1) := dk_172 (dk_at dksX6_readsInn_0 13 rfl rfl)
theorem dX6_readsInn_14 : decode cX6_readsInn 14 = .ok (.aload_n 0, 1) := dk_42 (dk_at dksX6_readsInn_0 14 rfl rfl)
theorem dX6_readsInn_15 : decode cX6_readsInn 15 = .ok (.getfield 183, 3) := dk_180 0 183 (dk_at dksX6_readsInn_0 15 rfl rfl)
theorem dX6_readsInn_18 : decode cX6_readsInn 18 = .ok (.istore_n 2, 1) := dk_61 (dk_at dksX6_readsInn_0 18 rfl rfl)
theorem dX6_readsInn_19 : decode cX6_readsInn 19 = .ok (.aload_n 0, 1) := dk_42 (dk_at dksX6_readsInn_0 19 rfl rfl)
theorem dX6_readsInn_20 : decode cX6_readsInn 20 = .ok (.iconst 0, 1) := dk_3 (dk_at dksX6_readsInn_0 20 rfl rfl)
theorem dX6_readsInn_21 : decode cX6_readsInn 21 = .ok (.sipush 999, 3) := dk_17 3 231 (dk_at dksX6_readsInn_0 21 rfl rfl)
theorem dX6_readsInn_24 : decode cX6_readsInn 24 = .ok (.invokevirtual 186, 3) := dk_182 0 186 (dk_at dksX6_readsInn_1 0 rfl rfl)
theorem dX6_readsInn_27 : decode cX6_readsInn 27 = .ok (.ifCond .eq 18, 3) := dk_153 0 18 (dk_at dksX6_readsInn_1 3 rfl rfl)
theorem dX6_readsInn_30 : decode cX6_readsInn 30 = .ok (.aload_n 0, 1) := dk_42 (dk_at dksX6_readsInn_1 6 rfl rfl)
theorem dX6_readsInn_31 : decode cX6_readsInn 31 = .ok (.getfield 20, 3) := dk_180 0 20 (dk_at dksX6_readsInn_1 7 rfl rfl)
theorem dX6_readsInn_34 : decode cX6_readsInn 34 = .ok (.aload_n 0, 1) := dk_42 (dk_at dksX6_readsInn_1 10 rfl rfl)
theorem dX6_readsInn_35 : decode cX6_readsInn 35 = .ok (.getfield 183, 3) := dk_180 0 183 (dk_at dksX6_readsInn_1 11 rfl rfl)
theorem dX6_readsInn_38 : decode cX6_readsInn 38 = .ok (.invokestatic 196, 3) := dk_184 0 196 (dk_at dksX6_readsInn_1 14 rfl rfl)
theorem dX6_readsInn_41 : decode cX6_readsInn 41 = .ok (.iconst (-1), 1) := dk_2 (dk_at dksX6_readsInn_1 17 rfl rfl)
theorem dX6_readsInn_42 : decode cX6_readsInn 42 = .ok (.if_icmp .eq 5, 3) := dk_159 0 5 (dk_at dksX6_readsInn_1 18 rfl rfl)
theorem dX6_readsInn_45 : decode cX6_readsInn 45 = .ok (.iconst 0, 1) := dk_3 (dk_at dksX6_readsInn_1 21 rfl rfl)
theorem dX6_readsInn_46 : decode cX6_readsInn 46 = .ok (.ireturn, 1) := dk_172 (dk_at dksX6_readsInn_1 22 rfl rfl)
theorem dX6_readsInn_47 : decode cX6_readsInn 47 = .ok (.aload_n 0, 1) := dk_42 (dk_at dksX6_readsInn_1 23 rfl rfl)
theorem dX6_readsInn_48 : decode cX6_readsInn 48 = .ok (.getfield 20, 3) := dk_180 0 20 (dk_at dksX6_readsInn_2 0 rfl rfl)
theorem dX6_readsInn_51 : decode cX6_readsInn 51 = .ok (.iload_n 2, 1) := dk_28 (dk_at dksX6_readsInn_2 3 rfl rfl)
theorem dX6_readsInn_52 : decode cX6_readsInn 52 = .ok (.aload_n 0, 1) := dk_42 (dk_at dksX6_readsInn_2 4 rfl rfl)
theorem dX6_readsInn_53 : decode cX6_readsInn 53 = .ok (.getfield 183, 3) := dk_180 0 183 (dk_at dksX6_readsInn_2 5 rfl rfl)
theorem dX6_readsInn_56 : decode cX6_readsInn 56 = .ok (.invokestatic 44, 3) := dk_184 0 44 (dk_at dksX6_readsInn_2 8 rfl rfl)
theorem dX6_readsInn_59 : decode cX6_readsInn 59 = .ok (.aload_n 0, 1) := dk_42 (dk_at dksX6_readsInn_2 11 rfl rfl)
theorem dX6_readsInn_60 : decode cX6_readsInn 60 = .ok (.iload_n 2, 1) := dk_28 (dk_at dksX6_readsInn_2 12 rfl rfl)
theorem dX6_readsInn_61 : decode cX6_readsInn 61 = .ok (.putfield 199, 3) := dk_181 0 199 (dk_at dksX6_readsInn_2 13 rfl rfl)
theorem dX6_readsInn_64 : decode cX6_readsInn 64 = .ok (.aload_n 0, 1) := dk_42 (dk_at dksX6_readsInn_2 16 rfl rfl)
theorem dX6_readsInn_65 : decode cX6_readsInn 65 = .ok (.invokevirtual 180, 3) := dk_182 0 180 (dk_at dksX6_readsInn_2 17 rfl rfl)
theorem dX6_readsInn_68 : decode cX6_readsInn 68 = .ok (.aload_n 0, 1) := dk_42 (dk_at dksX6_readsInn_2 20 rfl rfl)
theorem dX6_readsInn_69 : decode cX6_readsInn 69 = .ok (.getfield 20, 3) := dk_180 0 20 (dk_at dksX6_readsInn_2 21 rfl rfl)
theorem dX6_readsInn_72 : decode cX6_readsInn 72 = .ok (.bipush 27, 2) := dk_16 27 (dk_at dksX6_readsInn_3 0 rfl rfl)
theorem dX6_readsInn_74 : decode cX6_readsInn 74 = .ok (.iload_n 2, 1) := dk_28 (dk_at dksX6_readsInn_3 2 rfl rfl)
theorem dX6_readsInn_75 : decode cX6_readsInn 75 = .ok (.iadd, 1) := dk_96 (dk_at dksX6_readsInn_3 3 rfl rfl)
theorem dX6_readsInn_76 : decode cX6_readsInn 76 = .ok (.aload_n 0, 1) := dk_42 (dk_at dksX6_readsInn_3 4 rfl rfl)
theorem dX6_readsInn_77 : decode cX6_readsInn 77 = .ok (.ldc 202, 2) := dk_18 202 (dk_at dksX6_readsInn_3 5 rfl rfl)
theorem dX6_readsInn_79 : decode cX6_readsInn 79 = .ok (.invokevirtual 176, 3) := dk_182 0 176 (dk_at dksX6_readsInn_3 7 rfl rfl)
theorem dX6_readsInn_82 : decode cX6_readsInn 82 = .ok (.ifCond .eq 7, 3) := dk_153 0 7 (dk_at dksX6_readsInn_3 10 rfl rfl)
theorem dX6_readsInn_85 : decode cX6_readsInn 85 = .ok (.iconst 0, 1) := dk_3 (dk_at dksX6_readsInn_3 13 rfl rfl)
theorem dX6_readsInn_86 : decode cX6_readsInn 86 = .ok (.goto 4, 3) := dk_167 0 4 (dk_at dksX6_readsInn_3 14 rfl rfl)
theorem dX6_readsInn_89 : decode cX6_readsInn 89 = .ok (.iconst 1, 1) := dk_4 (dk_at dksX6_readsInn_3 17 rfl rfl)
theorem dX6_readsInn_90 : decode cX6_readsInn 90 = .ok (.iastore, 1) := dk_79 (dk_at dksX6_readsInn_3 18 rfl rfl)
theorem dX6_readsInn_91 : decode cX6_readsInn 91 = .ok (.aload_n 0, 1) := dk_42 (dk_at dksX6_readsInn_3 19 rfl rfl)
theorem dX6_readsInn_92 : decode cX6_readsInn 92 = .ok (.ldc 202, 2) := dk_18 202 (dk_at dksX6_readsInn_3 20 rfl rfl)
theorem dX6_readsInn_94 : decode cX6_readsInn 94 = .ok (.invokevirtual 176, 3) := dk_182 0 176 (dk_at dksX6_readsInn_4 0 rfl rfl)
theorem dX6_readsInn_97 : decode cX6_readsInn 97 = .ok (.ifCond .eq 7, 3) := dk_153 0 7 (dk_at dksX6_readsInn_4 3 rfl rfl)
theorem dX6_readsInn_100 : decode cX6_readsInn 100 = .ok (.aload_n 0, 1) := dk_42 (dk_at dksX6_readsInn_4 6 rfl rfl)
theorem dX6_readsInn_101 : decode cX6_readsInn 101 = .ok (.invokevirtual 180, 3) := dk_182 0 180 (dk_at dksX6_readsInn_4 7 rfl rfl)
theorem dX6_readsInn_104 : decode cX6_readsInn 104 = .ok (.aload_n 0, 1) := dk_42 (dk_at dksX6_readsInn_4 10 rfl rfl)
theorem dX6_readsInn_105 : decode cX6_readsInn 105 = .ok (.ldc 204, 2) := dk_18 204 (dk_at dksX6_readsInn_4 11 rfl rfl)
theorem dX6_readsInn_107 : decode cX6_readsInn 107 = .ok (.invokevirtual 206, 3) := dk_182 0 206 (dk_at dksX6_readsInn_4 13 rfl rfl)
theorem dX6_readsInn_110 : decode cX6_readsInn 110 = .ok (.ifCond .eq 28, 3) := dk_153 0 28 (dk_at dksX6_readsInn_4 16 rfl rfl)
theorem dX6_readsInn_113 : decode cX6_readsInn 113 = .ok (.aload_n 0, 1) := dk_42 (dk_at dksX6_readsInn_4 19 rfl rfl)
theorem dX6_readsInn_114 : decode cX6_readsInn 114 = .ok (.iconst 1, 1) := dk_4 (dk_at dksX6_readsInn_4 20 rfl rfl)
theorem dX6_readsInn_115 : decode cX6_readsInn 115 = .ok (.bipush 99, 2) := dk_16 99 (dk_at dksX6_readsInn_4 21 rfl rfl)
theorem dX6_readsInn_117 : decode cX6_readsInn 117 = .ok (.invokevirtual 193, 3) := dk_182 0 193 (dk_at dksX6_readsInn_5 0 rfl rfl)
theorem dX6_readsInn_120 : decode cX6_readsInn 120 = .ok (.ifCond .ne 5, 3) := dk_154 0 5 (dk_at dksX6_readsInn_5 3 rfl rfl)
theorem dX6_readsInn_123 : decode cX6_readsInn 123 = .ok (.iconst 0, 1) := dk_3 (dk_at dksX6_readsInn_5 6 rfl rfl)
theorem dX6_readsInn_124 : decode cX6_readsInn 124 = .ok (.ireturn, 1) := dk_172 (dk_at dksX6_readsInn_5 7 rfl rfl)
theorem dX6_readsInn_125 : decode cX6_readsInn 125 = .ok (.aload_n 0, 1) := dk_42 (dk_at dksX6_readsInn_5 8 rfl rfl)
theorem dX6_readsInn_126 : decode cX6_readsInn 126 = .ok (.getfield 20, 3) := dk_180 0 20 (dk_at dksX6_readsInn_5 9 rfl rfl)
theorem dX6_readsInn_129 : decode cX6_readsInn 129 = .ok (.bipush 39, 2) := dk_16 39 (dk_at dksX6_readsInn_5 12 rfl rfl)
theorem dX6_readsInn_131 : decode cX6_readsInn 131 = .ok (.iload_n 2, 1) := dk_28 (dk_at dksX6_readsInn_5 14 rfl rfl)
theorem dX6_readsInn_132 : decode cX6_readsInn 132 = .ok (.iadd, 1) := dk_96 (dk_at dksX6_readsInn_5 15 rfl rfl)
theorem dX6_readsInn_133 : decode cX6_readsInn 133 = .ok (.aload_n 0, 1) := dk_42 (dk_at dksX6_readsInn_5 16 rfl rfl)
theorem dX6_readsInn_134 : decode cX6_readsInn 134 = .ok (.getfield 183, 3) := dk_180 0 183 (dk_at dksX6_readsInn_5 17 rfl rfl)
theorem dX6_readsInn_137 : decode cX6_readsInn 137 = .ok (.iastore, 1) := dk_79 (dk_at dksX6_readsInn_5 20 rfl rfl)
theorem dX6_readsInn_138 : decode cX6_readsInn 138 = .ok (.iconst 1, 1) := dk_4 (dk_at dksX6_readsInn_5 21 rfl rfl)
theorem dX6_readsInn_139 : decode cX6_readsInn 139 = .ok (.ireturn, 1) := dk_172 (dk_at dksX6_readsInn_5 22 rfl rfl)
abbrev cX6_atMile : ByteArray := prog_12_method_11_code
def yX6_atMile : MethodName := ⟨RX6, "atMile", "([II)I"⟩
def dkwX6_atMile_1 : List UInt8 := [160, 0, 5, 28, 172, 132, 2, 1, 167, 255, 226, 2, 172]
abbrev dktX6_atMile_1 : List UInt8 := dkwX6_atMile_1 ++ []
def dkwX6_atMile_0 : List UInt8 := [3, 61, 28, 16, 12, 162, 0, 30, 42, 6, 28, 96, 46, 4, 160, 0, 15, 42, 16, 15, 28, 96, 46, 27]
abbrev dktX6_atMile_0 : List UInt8 := dkwX6_atMile_0 ++ dktX6_atMile_1
theorem dksX6_atMile_0 : cX6_atMile.data.toList.drop 0 = dktX6_atMile_0 := by decide +kernel
theorem dksX6_atMile_1 : cX6_atMile.data.toList.drop 24 = dktX6_atMile_1 := dk_seg dksX6_atMile_0 24 rfl rfl
theorem dX6_atMile_0 : decode cX6_atMile 0 = .ok (.iconst 0, 1) := dk_3 (dk_at dksX6_atMile_0 0 rfl rfl)
theorem dX6_atMile_1 : decode cX6_atMile 1 = .ok (.istore_n 2, 1) := dk_61 (dk_at dksX6_atMile_0 1 rfl rfl)
theorem dX6_atMile_2 : decode cX6_atMile 2 = .ok (.iload_n 2, 1) := dk_28 (dk_at dksX6_atMile_0 2 rfl rfl)
theorem dX6_atMile_3 : decode cX6_atMile 3 = .ok (.bipush 12, 2) := dk_16 12 (dk_at dksX6_atMile_0 3 rfl rfl)
theorem dX6_atMile_5 : decode cX6_atMile 5 = .ok (.if_icmp .ge 30, 3) := dk_162 0 30 (dk_at dksX6_atMile_0 5 rfl rfl)
theorem dX6_atMile_8 : decode cX6_atMile 8 = .ok (.aload_n 0, 1) := dk_42 (dk_at dksX6_atMile_0 8 rfl rfl)
theorem dX6_atMile_9 : decode cX6_atMile 9 = .ok (.iconst 3, 1) := dk_6 (dk_at dksX6_atMile_0 9 rfl rfl)
theorem dX6_atMile_10 : decode cX6_atMile 10 = .ok (.iload_n 2, 1) := dk_28 (dk_at dksX6_atMile_0 10 rfl rfl)
theorem dX6_atMile_11 : decode cX6_atMile 11 = .ok (.iadd, 1) := dk_96 (dk_at dksX6_atMile_0 11 rfl rfl)
theorem dX6_atMile_12 : decode cX6_atMile 12 = .ok (.iaload, 1) := dk_46 (dk_at dksX6_atMile_0 12 rfl rfl)
theorem dX6_atMile_13 : decode cX6_atMile 13 = .ok (.iconst 1, 1) := dk_4 (dk_at dksX6_atMile_0 13 rfl rfl)
theorem dX6_atMile_14 : decode cX6_atMile 14 = .ok (.if_icmp .ne 15, 3) := dk_160 0 15 (dk_at dksX6_atMile_0 14 rfl rfl)
theorem dX6_atMile_17 : decode cX6_atMile 17 = .ok (.aload_n 0, 1) := dk_42 (dk_at dksX6_atMile_0 17 rfl rfl)
theorem dX6_atMile_18 : decode cX6_atMile 18 = .ok (.bipush 15, 2) := dk_16 15 (dk_at dksX6_atMile_0 18 rfl rfl)
theorem dX6_atMile_20 : decode cX6_atMile 20 = .ok (.iload_n 2, 1) := dk_28 (dk_at dksX6_atMile_0 20 rfl rfl)
theorem dX6_atMile_21 : decode cX6_atMile 21 = .ok (.iadd, 1) := dk_96 (dk_at dksX6_atMile_0 21 rfl rfl)
theorem dX6_atMile_22 : decode cX6_atMile 22 = .ok (.iaload, 1) := dk_46 (dk_at dksX6_atMile_0 22 rfl rfl)
theorem dX6_atMile_23 : decode cX6_atMile 23 = .ok (.iload_n 1, 1) := dk_27 (dk_at dksX6_atMile_0 23 rfl rfl)
theorem dX6_atMile_24 : decode cX6_atMile 24 = .ok (.if_icmp .ne 5, 3) := dk_160 0 5 (dk_at dksX6_atMile_1 0 rfl rfl)
theorem dX6_atMile_27 : decode cX6_atMile 27 = .ok (.iload_n 2, 1) := dk_28 (dk_at dksX6_atMile_1 3 rfl rfl)
theorem dX6_atMile_28 : decode cX6_atMile 28 = .ok (.ireturn, 1) := dk_172 (dk_at dksX6_atMile_1 4 rfl rfl)
theorem dX6_atMile_29 : decode cX6_atMile 29 = .ok (.iinc 2 1, 3) := dk_132 2 1 (dk_at dksX6_atMile_1 5 rfl rfl)
theorem dX6_atMile_32 : decode cX6_atMile 32 = .ok (.goto (-30), 3) := dk_167 255 226 (dk_at dksX6_atMile_1 8 rfl rfl)
theorem dX6_atMile_35 : decode cX6_atMile 35 = .ok (.iconst (-1), 1) := dk_2 (dk_at dksX6_atMile_1 11 rfl rfl)
theorem dX6_atMile_36 : decode cX6_atMile 36 = .ok (.ireturn, 1) := dk_172 (dk_at dksX6_atMile_1 12 rfl rfl)
abbrev cX6_readsPointer : ByteArray := prog_12_method_37_code
def yX6_readsPointer : MethodName := ⟨RX6, "readsPointer", "(I)Z"⟩
def dkwX6_readsPointer_1 : List UInt8 := [180, 0, 20, 27, 28, 153, 0, 7, 2, 167, 0, 7, 42, 180, 0, 183, 79, 42, 182, 0, 180, 4, 172]
abbrev dktX6_readsPointer_1 : List UInt8 := dkwX6_readsPointer_1 ++ []
def dkwX6_readsPointer_0 : List UInt8 := [42, 16, 45, 182, 0, 190, 61, 28, 154, 0, 15, 42, 3, 16, 11, 182, 0, 186, 154, 0, 5, 3, 172, 42]
abbrev dktX6_readsPointer_0 : List UInt8 := dkwX6_readsPointer_0 ++ dktX6_readsPointer_1
theorem dksX6_readsPointer_0 : cX6_readsPointer.data.toList.drop 0 = dktX6_readsPointer_0 := by decide +kernel
theorem dksX6_readsPointer_1 : cX6_readsPointer.data.toList.drop 24 = dktX6_readsPointer_1 := dk_seg dksX6_readsPointer_0 24 rfl rfl
theorem dX6_readsPointer_0 : decode cX6_readsPointer 0 = .ok (.aload_n 0, 1) := dk_42 (dk_at dksX6_readsPointer_0 0 rfl rfl)
theorem dX6_readsPointer_1 : decode cX6_readsPointer 1 = .ok (.bipush 45, 2) := dk_16 45 (dk_at dksX6_readsPointer_0 1 rfl rfl)
theorem dX6_readsPointer_3 : decode cX6_readsPointer 3 = .ok (.invokevirtual 190, 3) := dk_182 0 190 (dk_at dksX6_readsPointer_0 3 rfl rfl)
theorem dX6_readsPointer_6 : decode cX6_readsPointer 6 = .ok (.istore_n 2, 1) := dk_61 (dk_at dksX6_readsPointer_0 6 rfl rfl)
theorem dX6_readsPointer_7 : decode cX6_readsPointer 7 = .ok (.iload_n 2, 1) := dk_28 (dk_at dksX6_readsPointer_0 7 rfl rfl)
theorem dX6_readsPointer_8 : decode cX6_readsPointer 8 = .ok (.ifCond .ne 15, 3) := dk_154 0 15 (dk_at dksX6_readsPointer_0 8 rfl rfl)
theorem dX6_readsPointer_11 : decode cX6_readsPointer 11 = .ok (.aload_n 0, 1) := dk_42 (dk_at dksX6_readsPointer_0 11 rfl rfl)
theorem dX6_readsPointer_12 : decode cX6_readsPointer 12 = .ok (.iconst 0, 1) := dk_3 (dk_at dksX6_readsPointer_0 12 rfl rfl)
theorem dX6_readsPointer_13 : decode cX6_readsPointer 13 = .ok (.bipush 11, 2) := dk_16 11 (dk_at dksX6_readsPointer_0 13 rfl rfl)
theorem dX6_readsPointer_15 : decode cX6_readsPointer 15 = .ok (.invokevirtual 186, 3) := dk_182 0 186 (dk_at dksX6_readsPointer_0 15 rfl rfl)
theorem dX6_readsPointer_18 : decode cX6_readsPointer 18 = .ok (.ifCond .ne 5, 3) := dk_154 0 5 (dk_at dksX6_readsPointer_0 18 rfl rfl)
theorem dX6_readsPointer_21 : decode cX6_readsPointer 21 = .ok (.iconst 0, 1) := dk_3 (dk_at dksX6_readsPointer_0 21 rfl rfl)
theorem dX6_readsPointer_22 : decode cX6_readsPointer 22 = .ok (.ireturn, 1) := dk_172 (dk_at dksX6_readsPointer_0 22 rfl rfl)
theorem dX6_readsPointer_23 : decode cX6_readsPointer 23 = .ok (.aload_n 0, 1) := dk_42 (dk_at dksX6_readsPointer_0 23 rfl rfl)
theorem dX6_readsPointer_24 : decode cX6_readsPointer 24 = .ok (.getfield 20, 3) := dk_180 0 20 (dk_at dksX6_readsPointer_1 0 rfl rfl)
theorem dX6_readsPointer_27 : decode cX6_readsPointer 27 = .ok (.iload_n 1, 1) := dk_27 (dk_at dksX6_readsPointer_1 3 rfl rfl)
theorem dX6_readsPointer_28 : decode cX6_readsPointer 28 = .ok (.iload_n 2, 1) := dk_28 (dk_at dksX6_readsPointer_1 4 rfl rfl)
theorem dX6_readsPointer_29 : decode cX6_readsPointer 29 = .ok (.ifCond .eq 7, 3) := dk_153 0 7 (dk_at dksX6_readsPointer_1 5 rfl rfl)
theorem dX6_readsPointer_32 : decode cX6_readsPointer 32 = .ok (.iconst (-1), 1) := dk_2 (dk_at dksX6_readsPointer_1 8 rfl rfl)
theorem dX6_readsPointer_33 : decode cX6_readsPointer 33 = .ok (.goto 7, 3) := dk_167 0 7 (dk_at dksX6_readsPointer_1 9 rfl rfl)
theorem dX6_readsPointer_36 : decode cX6_readsPointer 36 = .ok (.aload_n 0, 1) := dk_42 (dk_at dksX6_readsPointer_1 12 rfl rfl)
theorem dX6_readsPointer_37 : decode cX6_readsPointer 37 = .ok (.getfield 183, 3) := dk_180 0 183 (dk_at dksX6_readsPointer_1 13 rfl rfl)
theorem dX6_readsPointer_40 : decode cX6_readsPointer 40 = .ok (.iastore, 1) := dk_79 (dk_at dksX6_readsPointer_1 16 rfl rfl)
theorem dX6_readsPointer_41 : decode cX6_readsPointer 41 = .ok (.aload_n 0, 1) := dk_42 (dk_at dksX6_readsPointer_1 17 rfl rfl)
theorem dX6_readsPointer_42 : decode cX6_readsPointer 42 = .ok (.invokevirtual 180, 3) := dk_182 0 180 (dk_at dksX6_readsPointer_1 18 rfl rfl)
theorem dX6_readsPointer_45 : decode cX6_readsPointer 45 = .ok (.iconst 1, 1) := dk_4 (dk_at dksX6_readsPointer_1 21 rfl rfl)
theorem dX6_readsPointer_46 : decode cX6_readsPointer 46 = .ok (.ireturn, 1) := dk_172 (dk_at dksX6_readsPointer_1 22 rfl rfl)
abbrev cX6_readsOwnPointer : ByteArray := prog_12_method_39_code
def yX6_readsOwnPointer : MethodName := ⟨RX6, "readsOwnPointer", "(II)Z"⟩
def dkwX6_readsOwnPointer_2 : List UInt8 := [182, 0, 209, 172]
abbrev dktX6_readsOwnPointer_2 : List UInt8 := dkwX6_readsOwnPointer_2 ++ []
def dkwX6_readsOwnPointer_1 : List UInt8 := [154, 0, 5, 3, 172, 42, 42, 180, 0, 183, 181, 0, 199, 42, 182, 0, 180, 42, 27, 42, 180, 0, 199, 96]
abbrev dktX6_readsOwnPointer_1 : List UInt8 := dkwX6_readsOwnPointer_1 ++ dktX6_readsOwnPointer_2
def dkwX6_readsOwnPointer_0 : List UInt8 := [42, 28, 4, 96, 16, 11, 182, 0, 186, 153, 0, 17, 42, 180, 0, 20, 6, 42, 180, 0, 183, 96, 46]
abbrev dktX6_readsOwnPointer_0 : List UInt8 := dkwX6_readsOwnPointer_0 ++ dktX6_readsOwnPointer_1
theorem dksX6_readsOwnPointer_0 : cX6_readsOwnPointer.data.toList.drop 0 = dktX6_readsOwnPointer_0 := by decide +kernel
theorem dksX6_readsOwnPointer_1 : cX6_readsOwnPointer.data.toList.drop 23 = dktX6_readsOwnPointer_1 := dk_seg dksX6_readsOwnPointer_0 23 rfl rfl
theorem dksX6_readsOwnPointer_2 : cX6_readsOwnPointer.data.toList.drop 47 = dktX6_readsOwnPointer_2 := dk_seg dksX6_readsOwnPointer_1 24 rfl rfl
theorem dX6_readsOwnPointer_0 : decode cX6_readsOwnPointer 0 = .ok (.aload_n 0, 1) := dk_42 (dk_at dksX6_readsOwnPointer_0 0 rfl rfl)
theorem dX6_readsOwnPointer_1 : decode cX6_readsOwnPointer 1 = .ok (.iload_n 2, 1) := dk_28 (dk_at dksX6_readsOwnPointer_0 1 rfl rfl)
theorem dX6_readsOwnPointer_2 : decode cX6_readsOwnPointer 2 = .ok (.iconst 1, 1) := dk_4 (dk_at dksX6_readsOwnPointer_0 2 rfl rfl)
theorem dX6_readsOwnPointer_3 : decode cX6_readsOwnPointer 3 = .ok (.iadd, 1) := dk_96 (dk_at dksX6_readsOwnPointer_0 3 rfl rfl)
theorem dX6_readsOwnPointer_4 : decode cX6_readsOwnPointer 4 = .ok (.bipush 11, 2) := dk_16 11 (dk_at dksX6_readsOwnPointer_0 4 rfl rfl)
theorem dX6_readsOwnPointer_6 : decode cX6_readsOwnPointer 6 = .ok (.invokevirtual 186, 3) := dk_182 0 186 (dk_at dksX6_readsOwnPointer_0 6 rfl rfl)
theorem dX6_readsOwnPointer_9 : decode cX6_readsOwnPointer 9 = .ok (.ifCond .eq 17, 3) := dk_153 0 17 (dk_at dksX6_readsOwnPointer_0 9 rfl rfl)
theorem dX6_readsOwnPointer_12 : decode cX6_readsOwnPointer 12 = .ok (.aload_n 0, 1) := dk_42 (dk_at dksX6_readsOwnPointer_0 12 rfl rfl)
theorem dX6_readsOwnPointer_13 : decode cX6_readsOwnPointer 13 = .ok (.getfield 20, 3) := dk_180 0 20 (dk_at dksX6_readsOwnPointer_0 13 rfl rfl)
theorem dX6_readsOwnPointer_16 : decode cX6_readsOwnPointer 16 = .ok (.iconst 3, 1) := dk_6 (dk_at dksX6_readsOwnPointer_0 16 rfl rfl)
theorem dX6_readsOwnPointer_17 : decode cX6_readsOwnPointer 17 = .ok (.aload_n 0, 1) := dk_42 (dk_at dksX6_readsOwnPointer_0 17 rfl rfl)
theorem dX6_readsOwnPointer_18 : decode cX6_readsOwnPointer 18 = .ok (.getfield 183, 3) := dk_180 0 183 (dk_at dksX6_readsOwnPointer_0 18 rfl rfl)
theorem dX6_readsOwnPointer_21 : decode cX6_readsOwnPointer 21 = .ok (.iadd, 1) := dk_96 (dk_at dksX6_readsOwnPointer_0 21 rfl rfl)
theorem dX6_readsOwnPointer_22 : decode cX6_readsOwnPointer 22 = .ok (.iaload, 1) := dk_46 (dk_at dksX6_readsOwnPointer_0 22 rfl rfl)
theorem dX6_readsOwnPointer_23 : decode cX6_readsOwnPointer 23 = .ok (.ifCond .ne 5, 3) := dk_154 0 5 (dk_at dksX6_readsOwnPointer_1 0 rfl rfl)
theorem dX6_readsOwnPointer_26 : decode cX6_readsOwnPointer 26 = .ok (.iconst 0, 1) := dk_3 (dk_at dksX6_readsOwnPointer_1 3 rfl rfl)
theorem dX6_readsOwnPointer_27 : decode cX6_readsOwnPointer 27 = .ok (.ireturn, 1) := dk_172 (dk_at dksX6_readsOwnPointer_1 4 rfl rfl)
theorem dX6_readsOwnPointer_28 : decode cX6_readsOwnPointer 28 = .ok (.aload_n 0, 1) := dk_42 (dk_at dksX6_readsOwnPointer_1 5 rfl rfl)
theorem dX6_readsOwnPointer_29 : decode cX6_readsOwnPointer 29 = .ok (.aload_n 0, 1) := dk_42 (dk_at dksX6_readsOwnPointer_1 6 rfl rfl)
theorem dX6_readsOwnPointer_30 : decode cX6_readsOwnPointer 30 = .ok (.getfield 183, 3) := dk_180 0 183 (dk_at dksX6_readsOwnPointer_1 7 rfl rfl)
theorem dX6_readsOwnPointer_33 : decode cX6_readsOwnPointer 33 = .ok (.putfield 199, 3) := dk_181 0 199 (dk_at dksX6_readsOwnPointer_1 10 rfl rfl)
theorem dX6_readsOwnPointer_36 : decode cX6_readsOwnPointer 36 = .ok (.aload_n 0, 1) := dk_42 (dk_at dksX6_readsOwnPointer_1 13 rfl rfl)
theorem dX6_readsOwnPointer_37 : decode cX6_readsOwnPointer 37 = .ok (.invokevirtual 180, 3) := dk_182 0 180 (dk_at dksX6_readsOwnPointer_1 14 rfl rfl)
theorem dX6_readsOwnPointer_40 : decode cX6_readsOwnPointer 40 = .ok (.aload_n 0, 1) := dk_42 (dk_at dksX6_readsOwnPointer_1 17 rfl rfl)
theorem dX6_readsOwnPointer_41 : decode cX6_readsOwnPointer 41 = .ok (.iload_n 1, 1) := dk_27 (dk_at dksX6_readsOwnPointer_1 18 rfl rfl)
theorem dX6_readsOwnPointer_42 : decode cX6_readsOwnPointer 42 = .ok (.aload_n 0, 1) := dk_42 (dk_at dksX6_readsOwnPointer_1 19 rfl rfl)
theorem dX6_readsOwnPointer_43 : decode cX6_readsOwnPointer 43 = .ok (.getfield 199, 3) := dk_180 0 199 (dk_at dksX6_readsOwnPointer_1 20 rfl rfl)
theorem dX6_readsOwnPointer_46 : decode cX6_readsOwnPointer 46 = .ok (.iadd, 1) := dk_96 (dk_at dksX6_readsOwnPointer_1 23 rfl rfl)
theorem dX6_readsOwnPointer_47 : decode cX6_readsOwnPointer 47 = .ok (.invokevirtual 209, 3) := dk_182 0 209 (dk_at dksX6_readsOwnPointer_2 0 rfl rfl)
theorem dX6_readsOwnPointer_50 : decode cX6_readsOwnPointer 50 = .ok (.ireturn, 1) := dk_172 (dk_at dksX6_readsOwnPointer_2 3 rfl rfl)
abbrev cX6_load : ByteArray := prog_12_method_44_code
def yX6_load : MethodName := ⟨RX6, "load", "()I"⟩
def dkwX6_load_1 : List UInt8 := [180, 0, 20, 42, 180, 0, 13, 184, 0, 55, 42, 180, 0, 13, 184, 0, 71, 172]
abbrev dktX6_load_1 : List UInt8 := dkwX6_load_1 ++ []
def dkwX6_load_0 : List UInt8 := [42, 3, 181, 0, 3, 42, 182, 0, 238, 154, 0, 9, 42, 4, 182, 0, 136, 172, 42, 182, 0, 242, 42]
abbrev dktX6_load_0 : List UInt8 := dkwX6_load_0 ++ dktX6_load_1
theorem dksX6_load_0 : cX6_load.data.toList.drop 0 = dktX6_load_0 := by decide +kernel
theorem dksX6_load_1 : cX6_load.data.toList.drop 23 = dktX6_load_1 := dk_seg dksX6_load_0 23 rfl rfl
theorem dX6_load_0 : decode cX6_load 0 = .ok (.aload_n 0, 1) := dk_42 (dk_at dksX6_load_0 0 rfl rfl)
theorem dX6_load_1 : decode cX6_load 1 = .ok (.iconst 0, 1) := dk_3 (dk_at dksX6_load_0 1 rfl rfl)
theorem dX6_load_2 : decode cX6_load 2 = .ok (.putfield 3, 3) := dk_181 0 3 (dk_at dksX6_load_0 2 rfl rfl)
theorem dX6_load_5 : decode cX6_load 5 = .ok (.aload_n 0, 1) := dk_42 (dk_at dksX6_load_0 5 rfl rfl)
theorem dX6_load_6 : decode cX6_load 6 = .ok (.invokevirtual 238, 3) := dk_182 0 238 (dk_at dksX6_load_0 6 rfl rfl)
theorem dX6_load_9 : decode cX6_load 9 = .ok (.ifCond .ne 9, 3) := dk_154 0 9 (dk_at dksX6_load_0 9 rfl rfl)
theorem dX6_load_12 : decode cX6_load 12 = .ok (.aload_n 0, 1) := dk_42 (dk_at dksX6_load_0 12 rfl rfl)
theorem dX6_load_13 : decode cX6_load 13 = .ok (.iconst 1, 1) := dk_4 (dk_at dksX6_load_0 13 rfl rfl)
theorem dX6_load_14 : decode cX6_load 14 = .ok (.invokevirtual 136, 3) := dk_182 0 136 (dk_at dksX6_load_0 14 rfl rfl)
theorem dX6_load_17 : decode cX6_load 17 = .ok (.ireturn, 1) := dk_172 (dk_at dksX6_load_0 17 rfl rfl)
theorem dX6_load_18 : decode cX6_load 18 = .ok (.aload_n 0, 1) := dk_42 (dk_at dksX6_load_0 18 rfl rfl)
theorem dX6_load_19 : decode cX6_load 19 = .ok (.invokevirtual 242, 3) := dk_182 0 242 (dk_at dksX6_load_0 19 rfl rfl)
theorem dX6_load_22 : decode cX6_load 22 = .ok (.aload_n 0, 1) := dk_42 (dk_at dksX6_load_0 22 rfl rfl)
theorem dX6_load_23 : decode cX6_load 23 = .ok (.getfield 20, 3) := dk_180 0 20 (dk_at dksX6_load_1 0 rfl rfl)
theorem dX6_load_26 : decode cX6_load 26 = .ok (.aload_n 0, 1) := dk_42 (dk_at dksX6_load_1 3 rfl rfl)
theorem dX6_load_27 : decode cX6_load 27 = .ok (.getfield 13, 3) := dk_180 0 13 (dk_at dksX6_load_1 4 rfl rfl)
theorem dX6_load_30 : decode cX6_load 30 = .ok (.invokestatic 55, 3) := dk_184 0 55 (dk_at dksX6_load_1 7 rfl rfl)
theorem dX6_load_33 : decode cX6_load 33 = .ok (.aload_n 0, 1) := dk_42 (dk_at dksX6_load_1 10 rfl rfl)
theorem dX6_load_34 : decode cX6_load 34 = .ok (.getfield 13, 3) := dk_180 0 13 (dk_at dksX6_load_1 11 rfl rfl)
theorem dX6_load_37 : decode cX6_load 37 = .ok (.invokestatic 71, 3) := dk_184 0 71 (dk_at dksX6_load_1 14 rfl rfl)
theorem dX6_load_40 : decode cX6_load 40 = .ok (.ireturn, 1) := dk_172 (dk_at dksX6_load_1 17 rfl rfl)
abbrev cX6_remembers : ByteArray := prog_12_method_7_code
def yX6_remembers : MethodName := ⟨RX6, "remembers", "()V"⟩
def dkwX6_remembers_3 : List UInt8 := [180, 0, 52, 50, 184, 0, 55, 42, 89, 180, 0, 52, 4, 96, 181, 0, 52, 177]
abbrev dktX6_remembers_3 : List UInt8 := dkwX6_remembers_3 ++ []
def dkwX6_remembers_2 : List UInt8 := [16, 7, 43, 83, 42, 89, 180, 0, 52, 4, 100, 181, 0, 52, 42, 180, 0, 13, 42, 180, 0, 31, 42]
abbrev dktX6_remembers_2 : List UInt8 := dkwX6_remembers_2 ++ dktX6_remembers_3
def dkwX6_remembers_1 : List UInt8 := [42, 180, 0, 31, 28, 42, 180, 0, 31, 28, 4, 96, 50, 83, 132, 2, 1, 167, 255, 233, 42, 180, 0, 31]
abbrev dktX6_remembers_1 : List UInt8 := dkwX6_remembers_1 ++ dktX6_remembers_2
def dkwX6_remembers_0 : List UInt8 := [42, 180, 0, 52, 16, 8, 160, 0, 56, 42, 180, 0, 31, 3, 50, 76, 3, 61, 28, 16, 7, 162, 0, 23]
abbrev dktX6_remembers_0 : List UInt8 := dkwX6_remembers_0 ++ dktX6_remembers_1
theorem dksX6_remembers_0 : cX6_remembers.data.toList.drop 0 = dktX6_remembers_0 := by decide +kernel
theorem dksX6_remembers_1 : cX6_remembers.data.toList.drop 24 = dktX6_remembers_1 := dk_seg dksX6_remembers_0 24 rfl rfl
theorem dksX6_remembers_2 : cX6_remembers.data.toList.drop 48 = dktX6_remembers_2 := dk_seg dksX6_remembers_1 24 rfl rfl
theorem dksX6_remembers_3 : cX6_remembers.data.toList.drop 71 = dktX6_remembers_3 := dk_seg dksX6_remembers_2 23 rfl rfl
theorem dX6_remembers_0 : decode cX6_remembers 0 = .ok (.aload_n 0, 1) := dk_42 (dk_at dksX6_remembers_0 0 rfl rfl)
theorem dX6_remembers_1 : decode cX6_remembers 1 = .ok (.getfield 52, 3) := dk_180 0 52 (dk_at dksX6_remembers_0 1 rfl rfl)
theorem dX6_remembers_4 : decode cX6_remembers 4 = .ok (.bipush 8, 2) := dk_16 8 (dk_at dksX6_remembers_0 4 rfl rfl)
theorem dX6_remembers_6 : decode cX6_remembers 6 = .ok (.if_icmp .ne 56, 3) := dk_160 0 56 (dk_at dksX6_remembers_0 6 rfl rfl)
theorem dX6_remembers_9 : decode cX6_remembers 9 = .ok (.aload_n 0, 1) := dk_42 (dk_at dksX6_remembers_0 9 rfl rfl)
theorem dX6_remembers_10 : decode cX6_remembers 10 = .ok (.getfield 31, 3) := dk_180 0 31 (dk_at dksX6_remembers_0 10 rfl rfl)
theorem dX6_remembers_13 : decode cX6_remembers 13 = .ok (.iconst 0, 1) := dk_3 (dk_at dksX6_remembers_0 13 rfl rfl)
theorem dX6_remembers_14 : decode cX6_remembers 14 = .ok (.aaload, 1) := dk_50 (dk_at dksX6_remembers_0 14 rfl rfl)
theorem dX6_remembers_15 : decode cX6_remembers 15 = .ok (.astore_n 1, 1) := dk_76 (dk_at dksX6_remembers_0 15 rfl rfl)
theorem dX6_remembers_16 : decode cX6_remembers 16 = .ok (.iconst 0, 1) := dk_3 (dk_at dksX6_remembers_0 16 rfl rfl)
theorem dX6_remembers_17 : decode cX6_remembers 17 = .ok (.istore_n 2, 1) := dk_61 (dk_at dksX6_remembers_0 17 rfl rfl)
theorem dX6_remembers_18 : decode cX6_remembers 18 = .ok (.iload_n 2, 1) := dk_28 (dk_at dksX6_remembers_0 18 rfl rfl)
theorem dX6_remembers_19 : decode cX6_remembers 19 = .ok (.bipush 7, 2) := dk_16 7 (dk_at dksX6_remembers_0 19 rfl rfl)
theorem dX6_remembers_21 : decode cX6_remembers 21 = .ok (.if_icmp .ge 23, 3) := dk_162 0 23 (dk_at dksX6_remembers_0 21 rfl rfl)
theorem dX6_remembers_24 : decode cX6_remembers 24 = .ok (.aload_n 0, 1) := dk_42 (dk_at dksX6_remembers_1 0 rfl rfl)
theorem dX6_remembers_25 : decode cX6_remembers 25 = .ok (.getfield 31, 3) := dk_180 0 31 (dk_at dksX6_remembers_1 1 rfl rfl)
theorem dX6_remembers_28 : decode cX6_remembers 28 = .ok (.iload_n 2, 1) := dk_28 (dk_at dksX6_remembers_1 4 rfl rfl)
theorem dX6_remembers_29 : decode cX6_remembers 29 = .ok (.aload_n 0, 1) := dk_42 (dk_at dksX6_remembers_1 5 rfl rfl)
theorem dX6_remembers_30 : decode cX6_remembers 30 = .ok (.getfield 31, 3) := dk_180 0 31 (dk_at dksX6_remembers_1 6 rfl rfl)
theorem dX6_remembers_33 : decode cX6_remembers 33 = .ok (.iload_n 2, 1) := dk_28 (dk_at dksX6_remembers_1 9 rfl rfl)
theorem dX6_remembers_34 : decode cX6_remembers 34 = .ok (.iconst 1, 1) := dk_4 (dk_at dksX6_remembers_1 10 rfl rfl)
theorem dX6_remembers_35 : decode cX6_remembers 35 = .ok (.iadd, 1) := dk_96 (dk_at dksX6_remembers_1 11 rfl rfl)
theorem dX6_remembers_36 : decode cX6_remembers 36 = .ok (.aaload, 1) := dk_50 (dk_at dksX6_remembers_1 12 rfl rfl)
theorem dX6_remembers_37 : decode cX6_remembers 37 = .ok (.aastore, 1) := dk_83 (dk_at dksX6_remembers_1 13 rfl rfl)
theorem dX6_remembers_38 : decode cX6_remembers 38 = .ok (.iinc 2 1, 3) := dk_132 2 1 (dk_at dksX6_remembers_1 14 rfl rfl)
theorem dX6_remembers_41 : decode cX6_remembers 41 = .ok (.goto (-23), 3) := dk_167 255 233 (dk_at dksX6_remembers_1 17 rfl rfl)
theorem dX6_remembers_44 : decode cX6_remembers 44 = .ok (.aload_n 0, 1) := dk_42 (dk_at dksX6_remembers_1 20 rfl rfl)
theorem dX6_remembers_45 : decode cX6_remembers 45 = .ok (.getfield 31, 3) := dk_180 0 31 (dk_at dksX6_remembers_1 21 rfl rfl)
theorem dX6_remembers_48 : decode cX6_remembers 48 = .ok (.bipush 7, 2) := dk_16 7 (dk_at dksX6_remembers_2 0 rfl rfl)
theorem dX6_remembers_50 : decode cX6_remembers 50 = .ok (.aload_n 1, 1) := dk_43 (dk_at dksX6_remembers_2 2 rfl rfl)
theorem dX6_remembers_51 : decode cX6_remembers 51 = .ok (.aastore, 1) := dk_83 (dk_at dksX6_remembers_2 3 rfl rfl)
theorem dX6_remembers_52 : decode cX6_remembers 52 = .ok (.aload_n 0, 1) := dk_42 (dk_at dksX6_remembers_2 4 rfl rfl)
theorem dX6_remembers_53 : decode cX6_remembers 53 = .ok (.dup, 1) := dk_89 (dk_at dksX6_remembers_2 5 rfl rfl)
theorem dX6_remembers_54 : decode cX6_remembers 54 = .ok (.getfield 52, 3) := dk_180 0 52 (dk_at dksX6_remembers_2 6 rfl rfl)
theorem dX6_remembers_57 : decode cX6_remembers 57 = .ok (.iconst 1, 1) := dk_4 (dk_at dksX6_remembers_2 9 rfl rfl)
theorem dX6_remembers_58 : decode cX6_remembers 58 = .ok (.isub, 1) := dk_100 (dk_at dksX6_remembers_2 10 rfl rfl)
theorem dX6_remembers_59 : decode cX6_remembers 59 = .ok (.putfield 52, 3) := dk_181 0 52 (dk_at dksX6_remembers_2 11 rfl rfl)
theorem dX6_remembers_62 : decode cX6_remembers 62 = .ok (.aload_n 0, 1) := dk_42 (dk_at dksX6_remembers_2 14 rfl rfl)
theorem dX6_remembers_63 : decode cX6_remembers 63 = .ok (.getfield 13, 3) := dk_180 0 13 (dk_at dksX6_remembers_2 15 rfl rfl)
theorem dX6_remembers_66 : decode cX6_remembers 66 = .ok (.aload_n 0, 1) := dk_42 (dk_at dksX6_remembers_2 18 rfl rfl)
theorem dX6_remembers_67 : decode cX6_remembers 67 = .ok (.getfield 31, 3) := dk_180 0 31 (dk_at dksX6_remembers_2 19 rfl rfl)
theorem dX6_remembers_70 : decode cX6_remembers 70 = .ok (.aload_n 0, 1) := dk_42 (dk_at dksX6_remembers_2 22 rfl rfl)
theorem dX6_remembers_71 : decode cX6_remembers 71 = .ok (.getfield 52, 3) := dk_180 0 52 (dk_at dksX6_remembers_3 0 rfl rfl)
theorem dX6_remembers_74 : decode cX6_remembers 74 = .ok (.aaload, 1) := dk_50 (dk_at dksX6_remembers_3 3 rfl rfl)
theorem dX6_remembers_75 : decode cX6_remembers 75 = .ok (.invokestatic 55, 3) := dk_184 0 55 (dk_at dksX6_remembers_3 4 rfl rfl)
theorem dX6_remembers_78 : decode cX6_remembers 78 = .ok (.aload_n 0, 1) := dk_42 (dk_at dksX6_remembers_3 7 rfl rfl)
theorem dX6_remembers_79 : decode cX6_remembers 79 = .ok (.dup, 1) := dk_89 (dk_at dksX6_remembers_3 8 rfl rfl)
theorem dX6_remembers_80 : decode cX6_remembers 80 = .ok (.getfield 52, 3) := dk_180 0 52 (dk_at dksX6_remembers_3 9 rfl rfl)
theorem dX6_remembers_83 : decode cX6_remembers 83 = .ok (.iconst 1, 1) := dk_4 (dk_at dksX6_remembers_3 12 rfl rfl)
theorem dX6_remembers_84 : decode cX6_remembers 84 = .ok (.iadd, 1) := dk_96 (dk_at dksX6_remembers_3 13 rfl rfl)
theorem dX6_remembers_85 : decode cX6_remembers 85 = .ok (.putfield 52, 3) := dk_181 0 52 (dk_at dksX6_remembers_3 14 rfl rfl)
theorem dX6_remembers_88 : decode cX6_remembers 88 = .ok (.return_, 1) := dk_177 (dk_at dksX6_remembers_3 17 rfl rfl)
abbrev cX6_copies : ByteArray := prog_12_method_6_code
def yX6_copies : MethodName := ⟨RX6, "copies", "([I[I)V"⟩
def dkwX6_copies_0 : List UInt8 := [3, 61, 28, 16, 78, 162, 0, 15, 43, 28, 42, 28, 46, 79, 132, 2, 1, 167, 255, 241, 177]
abbrev dktX6_copies_0 : List UInt8 := dkwX6_copies_0 ++ []
theorem dksX6_copies_0 : cX6_copies.data.toList.drop 0 = dktX6_copies_0 := by decide +kernel
theorem dX6_copies_0 : decode cX6_copies 0 = .ok (.iconst 0, 1) := dk_3 (dk_at dksX6_copies_0 0 rfl rfl)
theorem dX6_copies_1 : decode cX6_copies 1 = .ok (.istore_n 2, 1) := dk_61 (dk_at dksX6_copies_0 1 rfl rfl)
theorem dX6_copies_2 : decode cX6_copies 2 = .ok (.iload_n 2, 1) := dk_28 (dk_at dksX6_copies_0 2 rfl rfl)
theorem dX6_copies_3 : decode cX6_copies 3 = .ok (.bipush 78, 2) := dk_16 78 (dk_at dksX6_copies_0 3 rfl rfl)
theorem dX6_copies_5 : decode cX6_copies 5 = .ok (.if_icmp .ge 15, 3) := dk_162 0 15 (dk_at dksX6_copies_0 5 rfl rfl)
theorem dX6_copies_8 : decode cX6_copies 8 = .ok (.aload_n 1, 1) := dk_43 (dk_at dksX6_copies_0 8 rfl rfl)
theorem dX6_copies_9 : decode cX6_copies 9 = .ok (.iload_n 2, 1) := dk_28 (dk_at dksX6_copies_0 9 rfl rfl)
theorem dX6_copies_10 : decode cX6_copies 10 = .ok (.aload_n 0, 1) := dk_42 (dk_at dksX6_copies_0 10 rfl rfl)
theorem dX6_copies_11 : decode cX6_copies 11 = .ok (.iload_n 2, 1) := dk_28 (dk_at dksX6_copies_0 11 rfl rfl)
theorem dX6_copies_12 : decode cX6_copies 12 = .ok (.iaload, 1) := dk_46 (dk_at dksX6_copies_0 12 rfl rfl)
theorem dX6_copies_13 : decode cX6_copies 13 = .ok (.iastore, 1) := dk_79 (dk_at dksX6_copies_0 13 rfl rfl)
theorem dX6_copies_14 : decode cX6_copies 14 = .ok (.iinc 2 1, 3) := dk_132 2 1 (dk_at dksX6_copies_0 14 rfl rfl)
theorem dX6_copies_17 : decode cX6_copies 17 = .ok (.goto (-15), 3) := dk_167 255 241 (dk_at dksX6_copies_0 17 rfl rfl)
theorem dX6_copies_20 : decode cX6_copies 20 = .ok (.return_, 1) := dk_177 (dk_at dksX6_copies_0 20 rfl rfl)
abbrev cX6_addInn : ByteArray := prog_12_method_45_code
def yX6_addInn : MethodName := ⟨RX6, "addInn", "(I)I"⟩
def dkwX6_addInn_4 : List UInt8 := [28, 27, 184, 0, 44, 42, 180, 0, 13, 184, 0, 48, 28, 172]
abbrev dktX6_addInn_4 : List UInt8 := dkwX6_addInn_4 ++ []
def dkwX6_addInn_3 : List UInt8 := [42, 180, 0, 13, 182, 0, 101, 154, 0, 9, 42, 5, 182, 0, 136, 172, 42, 182, 0, 242, 42, 180, 0, 13]
abbrev dktX6_addInn_3 : List UInt8 := dkwX6_addInn_3 ++ dktX6_addInn_4
def dkwX6_addInn_2 : List UInt8 := [180, 0, 13, 6, 28, 96, 46, 4, 160, 0, 9, 132, 2, 1, 167, 255, 235, 28, 16, 12, 159, 0, 14, 42]
abbrev dktX6_addInn_2 : List UInt8 := dkwX6_addInn_2 ++ dktX6_addInn_3
def dkwX6_addInn_1 : List UInt8 := [184, 0, 196, 2, 159, 0, 9, 42, 4, 182, 0, 136, 172, 3, 61, 28, 16, 12, 162, 0, 21, 42]
abbrev dktX6_addInn_1 : List UInt8 := dkwX6_addInn_1 ++ dktX6_addInn_2
def dkwX6_addInn_0 : List UInt8 := [42, 3, 181, 0, 3, 27, 133, 9, 20, 0, 245, 184, 0, 61, 153, 0, 15, 42, 180, 0, 13, 27]
abbrev dktX6_addInn_0 : List UInt8 := dkwX6_addInn_0 ++ dktX6_addInn_1
theorem dksX6_addInn_0 : cX6_addInn.data.toList.drop 0 = dktX6_addInn_0 := by decide +kernel
theorem dksX6_addInn_1 : cX6_addInn.data.toList.drop 22 = dktX6_addInn_1 := dk_seg dksX6_addInn_0 22 rfl rfl
theorem dksX6_addInn_2 : cX6_addInn.data.toList.drop 44 = dktX6_addInn_2 := dk_seg dksX6_addInn_1 22 rfl rfl
theorem dksX6_addInn_3 : cX6_addInn.data.toList.drop 68 = dktX6_addInn_3 := dk_seg dksX6_addInn_2 24 rfl rfl
theorem dksX6_addInn_4 : cX6_addInn.data.toList.drop 92 = dktX6_addInn_4 := dk_seg dksX6_addInn_3 24 rfl rfl
theorem dX6_addInn_0 : decode cX6_addInn 0 = .ok (.aload_n 0, 1) := dk_42 (dk_at dksX6_addInn_0 0 rfl rfl)
theorem dX6_addInn_1 : decode cX6_addInn 1 = .ok (.iconst 0, 1) := dk_3 (dk_at dksX6_addInn_0 1 rfl rfl)
theorem dX6_addInn_2 : decode cX6_addInn 2 = .ok (.putfield 3, 3) := dk_181 0 3 (dk_at dksX6_addInn_0 2 rfl rfl)
theorem dX6_addInn_5 : decode cX6_addInn 5 = .ok (.iload_n 1, 1) := dk_27 (dk_at dksX6_addInn_0 5 rfl rfl)
theorem dX6_addInn_6 : decode cX6_addInn 6 = .ok (.i2l, 1) := dk_133 (dk_at dksX6_addInn_0 6 rfl rfl)
theorem dX6_addInn_7 : decode cX6_addInn 7 = .ok (.lconst 0, 1) := dk_9 (dk_at dksX6_addInn_0 7 rfl rfl)
theorem dX6_addInn_8 : decode cX6_addInn 8 = .ok (.ldc2_w 245, 3) := dk_20 0 245 (dk_at dksX6_addInn_0 8 rfl rfl)
theorem dX6_addInn_11 : decode cX6_addInn 11 = .ok (.invokestatic 61, 3) := dk_184 0 61 (dk_at dksX6_addInn_0 11 rfl rfl)
theorem dX6_addInn_14 : decode cX6_addInn 14 = .ok (.ifCond .eq 15, 3) := dk_153 0 15 (dk_at dksX6_addInn_0 14 rfl rfl)
theorem dX6_addInn_17 : decode cX6_addInn 17 = .ok (.aload_n 0, 1) := dk_42 (dk_at dksX6_addInn_0 17 rfl rfl)
theorem dX6_addInn_18 : decode cX6_addInn 18 = .ok (.getfield 13, 3) := dk_180 0 13 (dk_at dksX6_addInn_0 18 rfl rfl)
theorem dX6_addInn_21 : decode cX6_addInn 21 = .ok (.iload_n 1, 1) := dk_27 (dk_at dksX6_addInn_0 21 rfl rfl)
theorem dX6_addInn_22 : decode cX6_addInn 22 = .ok (.invokestatic 196, 3) := dk_184 0 196 (dk_at dksX6_addInn_1 0 rfl rfl)
theorem dX6_addInn_25 : decode cX6_addInn 25 = .ok (.iconst (-1), 1) := dk_2 (dk_at dksX6_addInn_1 3 rfl rfl)
theorem dX6_addInn_26 : decode cX6_addInn 26 = .ok (.if_icmp .eq 9, 3) := dk_159 0 9 (dk_at dksX6_addInn_1 4 rfl rfl)
theorem dX6_addInn_29 : decode cX6_addInn 29 = .ok (.aload_n 0, 1) := dk_42 (dk_at dksX6_addInn_1 7 rfl rfl)
theorem dX6_addInn_30 : decode cX6_addInn 30 = .ok (.iconst 1, 1) := dk_4 (dk_at dksX6_addInn_1 8 rfl rfl)
theorem dX6_addInn_31 : decode cX6_addInn 31 = .ok (.invokevirtual 136, 3) := dk_182 0 136 (dk_at dksX6_addInn_1 9 rfl rfl)
theorem dX6_addInn_34 : decode cX6_addInn 34 = .ok (.ireturn, 1) := dk_172 (dk_at dksX6_addInn_1 12 rfl rfl)
theorem dX6_addInn_35 : decode cX6_addInn 35 = .ok (.iconst 0, 1) := dk_3 (dk_at dksX6_addInn_1 13 rfl rfl)
theorem dX6_addInn_36 : decode cX6_addInn 36 = .ok (.istore_n 2, 1) := dk_61 (dk_at dksX6_addInn_1 14 rfl rfl)
theorem dX6_addInn_37 : decode cX6_addInn 37 = .ok (.iload_n 2, 1) := dk_28 (dk_at dksX6_addInn_1 15 rfl rfl)
theorem dX6_addInn_38 : decode cX6_addInn 38 = .ok (.bipush 12, 2) := dk_16 12 (dk_at dksX6_addInn_1 16 rfl rfl)
theorem dX6_addInn_40 : decode cX6_addInn 40 = .ok (.if_icmp .ge 21, 3) := dk_162 0 21 (dk_at dksX6_addInn_1 18 rfl rfl)
theorem dX6_addInn_43 : decode cX6_addInn 43 = .ok (.aload_n 0, 1) := dk_42 (dk_at dksX6_addInn_1 21 rfl rfl)
theorem dX6_addInn_44 : decode cX6_addInn 44 = .ok (.getfield 13, 3) := dk_180 0 13 (dk_at dksX6_addInn_2 0 rfl rfl)
theorem dX6_addInn_47 : decode cX6_addInn 47 = .ok (.iconst 3, 1) := dk_6 (dk_at dksX6_addInn_2 3 rfl rfl)
theorem dX6_addInn_48 : decode cX6_addInn 48 = .ok (.iload_n 2, 1) := dk_28 (dk_at dksX6_addInn_2 4 rfl rfl)
theorem dX6_addInn_49 : decode cX6_addInn 49 = .ok (.iadd, 1) := dk_96 (dk_at dksX6_addInn_2 5 rfl rfl)
theorem dX6_addInn_50 : decode cX6_addInn 50 = .ok (.iaload, 1) := dk_46 (dk_at dksX6_addInn_2 6 rfl rfl)
theorem dX6_addInn_51 : decode cX6_addInn 51 = .ok (.iconst 1, 1) := dk_4 (dk_at dksX6_addInn_2 7 rfl rfl)
theorem dX6_addInn_52 : decode cX6_addInn 52 = .ok (.if_icmp .ne 9, 3) := dk_160 0 9 (dk_at dksX6_addInn_2 8 rfl rfl)
theorem dX6_addInn_55 : decode cX6_addInn 55 = .ok (.iinc 2 1, 3) := dk_132 2 1 (dk_at dksX6_addInn_2 11 rfl rfl)
theorem dX6_addInn_58 : decode cX6_addInn 58 = .ok (.goto (-21), 3) := dk_167 255 235 (dk_at dksX6_addInn_2 14 rfl rfl)
theorem dX6_addInn_61 : decode cX6_addInn 61 = .ok (.iload_n 2, 1) := dk_28 (dk_at dksX6_addInn_2 17 rfl rfl)
theorem dX6_addInn_62 : decode cX6_addInn 62 = .ok (.bipush 12, 2) := dk_16 12 (dk_at dksX6_addInn_2 18 rfl rfl)
theorem dX6_addInn_64 : decode cX6_addInn 64 = .ok (.if_icmp .eq 14, 3) := dk_159 0 14 (dk_at dksX6_addInn_2 20 rfl rfl)
theorem dX6_addInn_67 : decode cX6_addInn 67 = .ok (.aload_n 0, 1) := dk_42 (dk_at dksX6_addInn_2 23 rfl rfl)
theorem dX6_addInn_68 : decode cX6_addInn 68 = .ok (.aload_n 0, 1) := dk_42 (dk_at dksX6_addInn_3 0 rfl rfl)
theorem dX6_addInn_69 : decode cX6_addInn 69 = .ok (.getfield 13, 3) := dk_180 0 13 (dk_at dksX6_addInn_3 1 rfl rfl)
theorem dX6_addInn_72 : decode cX6_addInn 72 = .ok (.invokevirtual 101, 3) := dk_182 0 101 (dk_at dksX6_addInn_3 4 rfl rfl)
theorem dX6_addInn_75 : decode cX6_addInn 75 = .ok (.ifCond .ne 9, 3) := dk_154 0 9 (dk_at dksX6_addInn_3 7 rfl rfl)
theorem dX6_addInn_78 : decode cX6_addInn 78 = .ok (.aload_n 0, 1) := dk_42 (dk_at dksX6_addInn_3 10 rfl rfl)
theorem dX6_addInn_79 : decode cX6_addInn 79 = .ok (.iconst 2, 1) := dk_5 (dk_at dksX6_addInn_3 11 rfl rfl)
theorem dX6_addInn_80 : decode cX6_addInn 80 = .ok (.invokevirtual 136, 3) := dk_182 0 136 (dk_at dksX6_addInn_3 12 rfl rfl)
theorem dX6_addInn_83 : decode cX6_addInn 83 = .ok (.ireturn, 1) := dk_172 (dk_at dksX6_addInn_3 15 rfl rfl)
theorem dX6_addInn_84 : decode cX6_addInn 84 = .ok (.aload_n 0, 1) := dk_42 (dk_at dksX6_addInn_3 16 rfl rfl)
theorem dX6_addInn_85 : decode cX6_addInn 85 = .ok (.invokevirtual 242, 3) := dk_182 0 242 (dk_at dksX6_addInn_3 17 rfl rfl)
theorem dX6_addInn_88 : decode cX6_addInn 88 = .ok (.aload_n 0, 1) := dk_42 (dk_at dksX6_addInn_3 20 rfl rfl)
theorem dX6_addInn_89 : decode cX6_addInn 89 = .ok (.getfield 13, 3) := dk_180 0 13 (dk_at dksX6_addInn_3 21 rfl rfl)
theorem dX6_addInn_92 : decode cX6_addInn 92 = .ok (.iload_n 2, 1) := dk_28 (dk_at dksX6_addInn_4 0 rfl rfl)
theorem dX6_addInn_93 : decode cX6_addInn 93 = .ok (.iload_n 1, 1) := dk_27 (dk_at dksX6_addInn_4 1 rfl rfl)
theorem dX6_addInn_94 : decode cX6_addInn 94 = .ok (.invokestatic 44, 3) := dk_184 0 44 (dk_at dksX6_addInn_4 2 rfl rfl)
theorem dX6_addInn_97 : decode cX6_addInn 97 = .ok (.aload_n 0, 1) := dk_42 (dk_at dksX6_addInn_4 5 rfl rfl)
theorem dX6_addInn_98 : decode cX6_addInn 98 = .ok (.getfield 13, 3) := dk_180 0 13 (dk_at dksX6_addInn_4 6 rfl rfl)
theorem dX6_addInn_101 : decode cX6_addInn 101 = .ok (.invokestatic 48, 3) := dk_184 0 48 (dk_at dksX6_addInn_4 9 rfl rfl)
theorem dX6_addInn_104 : decode cX6_addInn 104 = .ok (.iload_n 2, 1) := dk_28 (dk_at dksX6_addInn_4 12 rfl rfl)
theorem dX6_addInn_105 : decode cX6_addInn 105 = .ok (.ireturn, 1) := dk_172 (dk_at dksX6_addInn_4 13 rfl rfl)
abbrev cX6_isSound : ByteArray := prog_12_method_20_code
def yX6_isSound : MethodName := ⟨RX6, "isSound", "([I)Z"⟩
def dkwX6_isSound_5 : List UInt8 := [42, 180, 0, 34, 28, 46, 96, 46, 184, 0, 98, 159, 0, 5, 3, 172, 132, 2, 1, 167, 255, 173, 4, 172]
abbrev dktX6_isSound_5 : List UInt8 := dkwX6_isSound_5 ++ []
def dkwX6_isSound_4 : List UInt8 := [167, 0, 4, 3, 62, 29, 153, 0, 32, 43, 16, 66, 42, 180, 0, 34, 28, 46, 96, 46, 43, 43, 16, 54]
abbrev dktX6_isSound_4 : List UInt8 := dkwX6_isSound_4 ++ dktX6_isSound_5
def dkwX6_isSound_3 : List UInt8 := [180, 0, 34, 28, 4, 100, 46, 96, 46, 43, 16, 15, 42, 180, 0, 34, 28, 46, 96, 46, 162, 0, 7, 4]
abbrev dktX6_isSound_3 : List UInt8 := dkwX6_isSound_3 ++ dktX6_isSound_4
def dkwX6_isSound_2 : List UInt8 := [159, 0, 5, 3, 172, 3, 61, 28, 42, 180, 0, 82, 162, 0, 81, 28, 153, 0, 30, 43, 16, 15, 42]
abbrev dktX6_isSound_2 : List UInt8 := dkwX6_isSound_2 ++ dktX6_isSound_3
def dkwX6_isSound_1 : List UInt8 := [43, 16, 53, 46, 42, 180, 0, 82, 160, 0, 18, 43, 16, 52, 46, 43, 43, 16, 51, 46, 184, 0, 98]
abbrev dktX6_isSound_1 : List UInt8 := dkwX6_isSound_1 ++ dktX6_isSound_2
def dkwX6_isSound_0 : List UInt8 := [42, 43, 182, 0, 95, 42, 180, 0, 82, 43, 184, 0, 71, 160, 0, 37, 42, 180, 0, 92, 2, 160, 0, 29]
abbrev dktX6_isSound_0 : List UInt8 := dkwX6_isSound_0 ++ dktX6_isSound_1
theorem dksX6_isSound_0 : cX6_isSound.data.toList.drop 0 = dktX6_isSound_0 := by decide +kernel
theorem dksX6_isSound_1 : cX6_isSound.data.toList.drop 24 = dktX6_isSound_1 := dk_seg dksX6_isSound_0 24 rfl rfl
theorem dksX6_isSound_2 : cX6_isSound.data.toList.drop 47 = dktX6_isSound_2 := dk_seg dksX6_isSound_1 23 rfl rfl
theorem dksX6_isSound_3 : cX6_isSound.data.toList.drop 70 = dktX6_isSound_3 := dk_seg dksX6_isSound_2 23 rfl rfl
theorem dksX6_isSound_4 : cX6_isSound.data.toList.drop 94 = dktX6_isSound_4 := dk_seg dksX6_isSound_3 24 rfl rfl
theorem dksX6_isSound_5 : cX6_isSound.data.toList.drop 118 = dktX6_isSound_5 := dk_seg dksX6_isSound_4 24 rfl rfl
theorem dX6_isSound_0 : decode cX6_isSound 0 = .ok (.aload_n 0, 1) := dk_42 (dk_at dksX6_isSound_0 0 rfl rfl)
theorem dX6_isSound_1 : decode cX6_isSound 1 = .ok (.aload_n 1, 1) := dk_43 (dk_at dksX6_isSound_0 1 rfl rfl)
theorem dX6_isSound_2 : decode cX6_isSound 2 = .ok (.invokevirtual 95, 3) := dk_182 0 95 (dk_at dksX6_isSound_0 2 rfl rfl)
theorem dX6_isSound_5 : decode cX6_isSound 5 = .ok (.aload_n 0, 1) := dk_42 (dk_at dksX6_isSound_0 5 rfl rfl)
theorem dX6_isSound_6 : decode cX6_isSound 6 = .ok (.getfield 82, 3) := dk_180 0 82 (dk_at dksX6_isSound_0 6 rfl rfl)
theorem dX6_isSound_9 : decode cX6_isSound 9 = .ok (.aload_n 1, 1) := dk_43 (dk_at dksX6_isSound_0 9 rfl rfl)
theorem dX6_isSound_10 : decode cX6_isSound 10 = .ok (.invokestatic 71, 3) := dk_184 0 71 (dk_at dksX6_isSound_0 10 rfl rfl)
theorem dX6_isSound_13 : decode cX6_isSound 13 = .ok (.if_icmp .ne 37, 3) := dk_160 0 37 (dk_at dksX6_isSound_0 13 rfl rfl)
theorem dX6_isSound_16 : decode cX6_isSound 16 = .ok (.aload_n 0, 1) := dk_42 (dk_at dksX6_isSound_0 16 rfl rfl)
theorem dX6_isSound_17 : decode cX6_isSound 17 = .ok (.getfield 92, 3) := dk_180 0 92 (dk_at dksX6_isSound_0 17 rfl rfl)
theorem dX6_isSound_20 : decode cX6_isSound 20 = .ok (.iconst (-1), 1) := dk_2 (dk_at dksX6_isSound_0 20 rfl rfl)
theorem dX6_isSound_21 : decode cX6_isSound 21 = .ok (.if_icmp .ne 29, 3) := dk_160 0 29 (dk_at dksX6_isSound_0 21 rfl rfl)
theorem dX6_isSound_24 : decode cX6_isSound 24 = .ok (.aload_n 1, 1) := dk_43 (dk_at dksX6_isSound_1 0 rfl rfl)
theorem dX6_isSound_25 : decode cX6_isSound 25 = .ok (.bipush 53, 2) := dk_16 53 (dk_at dksX6_isSound_1 1 rfl rfl)
theorem dX6_isSound_27 : decode cX6_isSound 27 = .ok (.iaload, 1) := dk_46 (dk_at dksX6_isSound_1 3 rfl rfl)
theorem dX6_isSound_28 : decode cX6_isSound 28 = .ok (.aload_n 0, 1) := dk_42 (dk_at dksX6_isSound_1 4 rfl rfl)
theorem dX6_isSound_29 : decode cX6_isSound 29 = .ok (.getfield 82, 3) := dk_180 0 82 (dk_at dksX6_isSound_1 5 rfl rfl)
theorem dX6_isSound_32 : decode cX6_isSound 32 = .ok (.if_icmp .ne 18, 3) := dk_160 0 18 (dk_at dksX6_isSound_1 8 rfl rfl)
theorem dX6_isSound_35 : decode cX6_isSound 35 = .ok (.aload_n 1, 1) := dk_43 (dk_at dksX6_isSound_1 11 rfl rfl)
theorem dX6_isSound_36 : decode cX6_isSound 36 = .ok (.bipush 52, 2) := dk_16 52 (dk_at dksX6_isSound_1 12 rfl rfl)
theorem dX6_isSound_38 : decode cX6_isSound 38 = .ok (.iaload, 1) := dk_46 (dk_at dksX6_isSound_1 14 rfl rfl)
theorem dX6_isSound_39 : decode cX6_isSound 39 = .ok (.aload_n 1, 1) := dk_43 (dk_at dksX6_isSound_1 15 rfl rfl)
theorem dX6_isSound_40 : decode cX6_isSound 40 = .ok (.aload_n 1, 1) := dk_43 (dk_at dksX6_isSound_1 16 rfl rfl)
theorem dX6_isSound_41 : decode cX6_isSound 41 = .ok (.bipush 51, 2) := dk_16 51 (dk_at dksX6_isSound_1 17 rfl rfl)
theorem dX6_isSound_43 : decode cX6_isSound 43 = .ok (.iaload, 1) := dk_46 (dk_at dksX6_isSound_1 19 rfl rfl)
theorem dX6_isSound_44 : decode cX6_isSound 44 = .ok (.invokestatic 98, 3) := dk_184 0 98 (dk_at dksX6_isSound_1 20 rfl rfl)
theorem dX6_isSound_47 : decode cX6_isSound 47 = .ok (.if_icmp .eq 5, 3) := dk_159 0 5 (dk_at dksX6_isSound_2 0 rfl rfl)
theorem dX6_isSound_50 : decode cX6_isSound 50 = .ok (.iconst 0, 1) := dk_3 (dk_at dksX6_isSound_2 3 rfl rfl)
theorem dX6_isSound_51 : decode cX6_isSound 51 = .ok (.ireturn, 1) := dk_172 (dk_at dksX6_isSound_2 4 rfl rfl)
theorem dX6_isSound_52 : decode cX6_isSound 52 = .ok (.iconst 0, 1) := dk_3 (dk_at dksX6_isSound_2 5 rfl rfl)
theorem dX6_isSound_53 : decode cX6_isSound 53 = .ok (.istore_n 2, 1) := dk_61 (dk_at dksX6_isSound_2 6 rfl rfl)
theorem dX6_isSound_54 : decode cX6_isSound 54 = .ok (.iload_n 2, 1) := dk_28 (dk_at dksX6_isSound_2 7 rfl rfl)
theorem dX6_isSound_55 : decode cX6_isSound 55 = .ok (.aload_n 0, 1) := dk_42 (dk_at dksX6_isSound_2 8 rfl rfl)
theorem dX6_isSound_56 : decode cX6_isSound 56 = .ok (.getfield 82, 3) := dk_180 0 82 (dk_at dksX6_isSound_2 9 rfl rfl)
theorem dX6_isSound_59 : decode cX6_isSound 59 = .ok (.if_icmp .ge 81, 3) := dk_162 0 81 (dk_at dksX6_isSound_2 12 rfl rfl)
theorem dX6_isSound_62 : decode cX6_isSound 62 = .ok (.iload_n 2, 1) := dk_28 (dk_at dksX6_isSound_2 15 rfl rfl)
theorem dX6_isSound_63 : decode cX6_isSound 63 = .ok (.ifCond .eq 30, 3) := dk_153 0 30 (dk_at dksX6_isSound_2 16 rfl rfl)
theorem dX6_isSound_66 : decode cX6_isSound 66 = .ok (.aload_n 1, 1) := dk_43 (dk_at dksX6_isSound_2 19 rfl rfl)
theorem dX6_isSound_67 : decode cX6_isSound 67 = .ok (.bipush 15, 2) := dk_16 15 (dk_at dksX6_isSound_2 20 rfl rfl)
theorem dX6_isSound_69 : decode cX6_isSound 69 = .ok (.aload_n 0, 1) := dk_42 (dk_at dksX6_isSound_2 22 rfl rfl)
theorem dX6_isSound_70 : decode cX6_isSound 70 = .ok (.getfield 34, 3) := dk_180 0 34 (dk_at dksX6_isSound_3 0 rfl rfl)
theorem dX6_isSound_73 : decode cX6_isSound 73 = .ok (.iload_n 2, 1) := dk_28 (dk_at dksX6_isSound_3 3 rfl rfl)
theorem dX6_isSound_74 : decode cX6_isSound 74 = .ok (.iconst 1, 1) := dk_4 (dk_at dksX6_isSound_3 4 rfl rfl)
theorem dX6_isSound_75 : decode cX6_isSound 75 = .ok (.isub, 1) := dk_100 (dk_at dksX6_isSound_3 5 rfl rfl)
theorem dX6_isSound_76 : decode cX6_isSound 76 = .ok (.iaload, 1) := dk_46 (dk_at dksX6_isSound_3 6 rfl rfl)
theorem dX6_isSound_77 : decode cX6_isSound 77 = .ok (.iadd, 1) := dk_96 (dk_at dksX6_isSound_3 7 rfl rfl)
theorem dX6_isSound_78 : decode cX6_isSound 78 = .ok (.iaload, 1) := dk_46 (dk_at dksX6_isSound_3 8 rfl rfl)
theorem dX6_isSound_79 : decode cX6_isSound 79 = .ok (.aload_n 1, 1) := dk_43 (dk_at dksX6_isSound_3 9 rfl rfl)
theorem dX6_isSound_80 : decode cX6_isSound 80 = .ok (.bipush 15, 2) := dk_16 15 (dk_at dksX6_isSound_3 10 rfl rfl)
theorem dX6_isSound_82 : decode cX6_isSound 82 = .ok (.aload_n 0, 1) := dk_42 (dk_at dksX6_isSound_3 12 rfl rfl)
theorem dX6_isSound_83 : decode cX6_isSound 83 = .ok (.getfield 34, 3) := dk_180 0 34 (dk_at dksX6_isSound_3 13 rfl rfl)
theorem dX6_isSound_86 : decode cX6_isSound 86 = .ok (.iload_n 2, 1) := dk_28 (dk_at dksX6_isSound_3 16 rfl rfl)
theorem dX6_isSound_87 : decode cX6_isSound 87 = .ok (.iaload, 1) := dk_46 (dk_at dksX6_isSound_3 17 rfl rfl)
theorem dX6_isSound_88 : decode cX6_isSound 88 = .ok (.iadd, 1) := dk_96 (dk_at dksX6_isSound_3 18 rfl rfl)
theorem dX6_isSound_89 : decode cX6_isSound 89 = .ok (.iaload, 1) := dk_46 (dk_at dksX6_isSound_3 19 rfl rfl)
theorem dX6_isSound_90 : decode cX6_isSound 90 = .ok (.if_icmp .ge 7, 3) := dk_162 0 7 (dk_at dksX6_isSound_3 20 rfl rfl)
theorem dX6_isSound_93 : decode cX6_isSound 93 = .ok (.iconst 1, 1) := dk_4 (dk_at dksX6_isSound_3 23 rfl rfl)
theorem dX6_isSound_94 : decode cX6_isSound 94 = .ok (.goto 4, 3) := dk_167 0 4 (dk_at dksX6_isSound_4 0 rfl rfl)
theorem dX6_isSound_97 : decode cX6_isSound 97 = .ok (.iconst 0, 1) := dk_3 (dk_at dksX6_isSound_4 3 rfl rfl)
theorem dX6_isSound_98 : decode cX6_isSound 98 = .ok (.istore_n 3, 1) := dk_62 (dk_at dksX6_isSound_4 4 rfl rfl)
theorem dX6_isSound_99 : decode cX6_isSound 99 = .ok (.iload_n 3, 1) := dk_29 (dk_at dksX6_isSound_4 5 rfl rfl)
theorem dX6_isSound_100 : decode cX6_isSound 100 = .ok (.ifCond .eq 32, 3) := dk_153 0 32 (dk_at dksX6_isSound_4 6 rfl rfl)
theorem dX6_isSound_103 : decode cX6_isSound 103 = .ok (.aload_n 1, 1) := dk_43 (dk_at dksX6_isSound_4 9 rfl rfl)
theorem dX6_isSound_104 : decode cX6_isSound 104 = .ok (.bipush 66, 2) := dk_16 66 (dk_at dksX6_isSound_4 10 rfl rfl)
theorem dX6_isSound_106 : decode cX6_isSound 106 = .ok (.aload_n 0, 1) := dk_42 (dk_at dksX6_isSound_4 12 rfl rfl)
theorem dX6_isSound_107 : decode cX6_isSound 107 = .ok (.getfield 34, 3) := dk_180 0 34 (dk_at dksX6_isSound_4 13 rfl rfl)
theorem dX6_isSound_110 : decode cX6_isSound 110 = .ok (.iload_n 2, 1) := dk_28 (dk_at dksX6_isSound_4 16 rfl rfl)
theorem dX6_isSound_111 : decode cX6_isSound 111 = .ok (.iaload, 1) := dk_46 (dk_at dksX6_isSound_4 17 rfl rfl)
theorem dX6_isSound_112 : decode cX6_isSound 112 = .ok (.iadd, 1) := dk_96 (dk_at dksX6_isSound_4 18 rfl rfl)
theorem dX6_isSound_113 : decode cX6_isSound 113 = .ok (.iaload, 1) := dk_46 (dk_at dksX6_isSound_4 19 rfl rfl)
theorem dX6_isSound_114 : decode cX6_isSound 114 = .ok (.aload_n 1, 1) := dk_43 (dk_at dksX6_isSound_4 20 rfl rfl)
theorem dX6_isSound_115 : decode cX6_isSound 115 = .ok (.aload_n 1, 1) := dk_43 (dk_at dksX6_isSound_4 21 rfl rfl)
theorem dX6_isSound_116 : decode cX6_isSound 116 = .ok (.bipush 54, 2) := dk_16 54 (dk_at dksX6_isSound_4 22 rfl rfl)
theorem dX6_isSound_118 : decode cX6_isSound 118 = .ok (.aload_n 0, 1) := dk_42 (dk_at dksX6_isSound_5 0 rfl rfl)
theorem dX6_isSound_119 : decode cX6_isSound 119 = .ok (.getfield 34, 3) := dk_180 0 34 (dk_at dksX6_isSound_5 1 rfl rfl)
theorem dX6_isSound_122 : decode cX6_isSound 122 = .ok (.iload_n 2, 1) := dk_28 (dk_at dksX6_isSound_5 4 rfl rfl)
theorem dX6_isSound_123 : decode cX6_isSound 123 = .ok (.iaload, 1) := dk_46 (dk_at dksX6_isSound_5 5 rfl rfl)
theorem dX6_isSound_124 : decode cX6_isSound 124 = .ok (.iadd, 1) := dk_96 (dk_at dksX6_isSound_5 6 rfl rfl)
theorem dX6_isSound_125 : decode cX6_isSound 125 = .ok (.iaload, 1) := dk_46 (dk_at dksX6_isSound_5 7 rfl rfl)
theorem dX6_isSound_126 : decode cX6_isSound 126 = .ok (.invokestatic 98, 3) := dk_184 0 98 (dk_at dksX6_isSound_5 8 rfl rfl)
theorem dX6_isSound_129 : decode cX6_isSound 129 = .ok (.if_icmp .eq 5, 3) := dk_159 0 5 (dk_at dksX6_isSound_5 11 rfl rfl)
theorem dX6_isSound_132 : decode cX6_isSound 132 = .ok (.iconst 0, 1) := dk_3 (dk_at dksX6_isSound_5 14 rfl rfl)
theorem dX6_isSound_133 : decode cX6_isSound 133 = .ok (.ireturn, 1) := dk_172 (dk_at dksX6_isSound_5 15 rfl rfl)
theorem dX6_isSound_134 : decode cX6_isSound 134 = .ok (.iinc 2 1, 3) := dk_132 2 1 (dk_at dksX6_isSound_5 16 rfl rfl)
theorem dX6_isSound_137 : decode cX6_isSound 137 = .ok (.goto (-83), 3) := dk_167 255 173 (dk_at dksX6_isSound_5 19 rfl rfl)
theorem dX6_isSound_140 : decode cX6_isSound 140 = .ok (.iconst 1, 1) := dk_4 (dk_at dksX6_isSound_5 22 rfl rfl)
theorem dX6_isSound_141 : decode cX6_isSound 141 = .ok (.ireturn, 1) := dk_172 (dk_at dksX6_isSound_5 23 rfl rfl)
abbrev cX6_laysChain : ByteArray := prog_12_method_17_code
def yX6_laysChain : MethodName := ⟨RX6, "laysChain", "([I)V"⟩
def dkwX6_laysChain_2 : List UInt8 := [16, 54, 28, 96, 46, 61, 167, 255, 212, 42, 28, 181, 0, 92, 177]
abbrev dktX6_laysChain_2 : List UInt8 := dkwX6_laysChain_2 ++ []
def dkwX6_laysChain_1 : List UInt8 := [160, 0, 33, 42, 180, 0, 34, 42, 180, 0, 82, 28, 79, 42, 89, 180, 0, 82, 4, 96, 181, 0, 82, 43]
abbrev dktX6_laysChain_1 : List UInt8 := dkwX6_laysChain_1 ++ dktX6_laysChain_2
def dkwX6_laysChain_0 : List UInt8 := [42, 3, 181, 0, 82, 43, 16, 51, 46, 61, 43, 28, 184, 0, 85, 153, 0, 42, 42, 28, 182, 0, 88, 2]
abbrev dktX6_laysChain_0 : List UInt8 := dkwX6_laysChain_0 ++ dktX6_laysChain_1
theorem dksX6_laysChain_0 : cX6_laysChain.data.toList.drop 0 = dktX6_laysChain_0 := by decide +kernel
theorem dksX6_laysChain_1 : cX6_laysChain.data.toList.drop 24 = dktX6_laysChain_1 := dk_seg dksX6_laysChain_0 24 rfl rfl
theorem dksX6_laysChain_2 : cX6_laysChain.data.toList.drop 48 = dktX6_laysChain_2 := dk_seg dksX6_laysChain_1 24 rfl rfl
theorem dX6_laysChain_0 : decode cX6_laysChain 0 = .ok (.aload_n 0, 1) := dk_42 (dk_at dksX6_laysChain_0 0 rfl rfl)
theorem dX6_laysChain_1 : decode cX6_laysChain 1 = .ok (.iconst 0, 1) := dk_3 (dk_at dksX6_laysChain_0 1 rfl rfl)
theorem dX6_laysChain_2 : decode cX6_laysChain 2 = .ok (.putfield 82, 3) := dk_181 0 82 (dk_at dksX6_laysChain_0 2 rfl rfl)
theorem dX6_laysChain_5 : decode cX6_laysChain 5 = .ok (.aload_n 1, 1) := dk_43 (dk_at dksX6_laysChain_0 5 rfl rfl)
theorem dX6_laysChain_6 : decode cX6_laysChain 6 = .ok (.bipush 51, 2) := dk_16 51 (dk_at dksX6_laysChain_0 6 rfl rfl)
theorem dX6_laysChain_8 : decode cX6_laysChain 8 = .ok (.iaload, 1) := dk_46 (dk_at dksX6_laysChain_0 8 rfl rfl)
theorem dX6_laysChain_9 : decode cX6_laysChain 9 = .ok (.istore_n 2, 1) := dk_61 (dk_at dksX6_laysChain_0 9 rfl rfl)
theorem dX6_laysChain_10 : decode cX6_laysChain 10 = .ok (.aload_n 1, 1) := dk_43 (dk_at dksX6_laysChain_0 10 rfl rfl)
theorem dX6_laysChain_11 : decode cX6_laysChain 11 = .ok (.iload_n 2, 1) := dk_28 (dk_at dksX6_laysChain_0 11 rfl rfl)
theorem dX6_laysChain_12 : decode cX6_laysChain 12 = .ok (.invokestatic 85, 3) := dk_184 0 85 (dk_at dksX6_laysChain_0 12 rfl rfl)
theorem dX6_laysChain_15 : decode cX6_laysChain 15 = .ok (.ifCond .eq 42, 3) := dk_153 0 42 (dk_at dksX6_laysChain_0 15 rfl rfl)
theorem dX6_laysChain_18 : decode cX6_laysChain 18 = .ok (.aload_n 0, 1) := dk_42 (dk_at dksX6_laysChain_0 18 rfl rfl)
theorem dX6_laysChain_19 : decode cX6_laysChain 19 = .ok (.iload_n 2, 1) := dk_28 (dk_at dksX6_laysChain_0 19 rfl rfl)
theorem dX6_laysChain_20 : decode cX6_laysChain 20 = .ok (.invokevirtual 88, 3) := dk_182 0 88 (dk_at dksX6_laysChain_0 20 rfl rfl)
theorem dX6_laysChain_23 : decode cX6_laysChain 23 = .ok (.iconst (-1), 1) := dk_2 (dk_at dksX6_laysChain_0 23 rfl rfl)
theorem dX6_laysChain_24 : decode cX6_laysChain 24 = .ok (.if_icmp .ne 33, 3) := dk_160 0 33 (dk_at dksX6_laysChain_1 0 rfl rfl)
theorem dX6_laysChain_27 : decode cX6_laysChain 27 = .ok (.aload_n 0, 1) := dk_42 (dk_at dksX6_laysChain_1 3 rfl rfl)
theorem dX6_laysChain_28 : decode cX6_laysChain 28 = .ok (.getfield 34, 3) := dk_180 0 34 (dk_at dksX6_laysChain_1 4 rfl rfl)
theorem dX6_laysChain_31 : decode cX6_laysChain 31 = .ok (.aload_n 0, 1) := dk_42 (dk_at dksX6_laysChain_1 7 rfl rfl)
theorem dX6_laysChain_32 : decode cX6_laysChain 32 = .ok (.getfield 82, 3) := dk_180 0 82 (dk_at dksX6_laysChain_1 8 rfl rfl)
theorem dX6_laysChain_35 : decode cX6_laysChain 35 = .ok (.iload_n 2, 1) := dk_28 (dk_at dksX6_laysChain_1 11 rfl rfl)
theorem dX6_laysChain_36 : decode cX6_laysChain 36 = .ok (.iastore, 1) := dk_79 (dk_at dksX6_laysChain_1 12 rfl rfl)
theorem dX6_laysChain_37 : decode cX6_laysChain 37 = .ok (.aload_n 0, 1) := dk_42 (dk_at dksX6_laysChain_1 13 rfl rfl)
theorem dX6_laysChain_38 : decode cX6_laysChain 38 = .ok (.dup, 1) := dk_89 (dk_at dksX6_laysChain_1 14 rfl rfl)
theorem dX6_laysChain_39 : decode cX6_laysChain 39 = .ok (.getfield 82, 3) := dk_180 0 82 (dk_at dksX6_laysChain_1 15 rfl rfl)
theorem dX6_laysChain_42 : decode cX6_laysChain 42 = .ok (.iconst 1, 1) := dk_4 (dk_at dksX6_laysChain_1 18 rfl rfl)
theorem dX6_laysChain_43 : decode cX6_laysChain 43 = .ok (.iadd, 1) := dk_96 (dk_at dksX6_laysChain_1 19 rfl rfl)
theorem dX6_laysChain_44 : decode cX6_laysChain 44 = .ok (.putfield 82, 3) := dk_181 0 82 (dk_at dksX6_laysChain_1 20 rfl rfl)
theorem dX6_laysChain_47 : decode cX6_laysChain 47 = .ok (.aload_n 1, 1) := dk_43 (dk_at dksX6_laysChain_1 23 rfl rfl)
theorem dX6_laysChain_48 : decode cX6_laysChain 48 = .ok (.bipush 54, 2) := dk_16 54 (dk_at dksX6_laysChain_2 0 rfl rfl)
theorem dX6_laysChain_50 : decode cX6_laysChain 50 = .ok (.iload_n 2, 1) := dk_28 (dk_at dksX6_laysChain_2 2 rfl rfl)
theorem dX6_laysChain_51 : decode cX6_laysChain 51 = .ok (.iadd, 1) := dk_96 (dk_at dksX6_laysChain_2 3 rfl rfl)
theorem dX6_laysChain_52 : decode cX6_laysChain 52 = .ok (.iaload, 1) := dk_46 (dk_at dksX6_laysChain_2 4 rfl rfl)
theorem dX6_laysChain_53 : decode cX6_laysChain 53 = .ok (.istore_n 2, 1) := dk_61 (dk_at dksX6_laysChain_2 5 rfl rfl)
theorem dX6_laysChain_54 : decode cX6_laysChain 54 = .ok (.goto (-44), 3) := dk_167 255 212 (dk_at dksX6_laysChain_2 6 rfl rfl)
theorem dX6_laysChain_57 : decode cX6_laysChain 57 = .ok (.aload_n 0, 1) := dk_42 (dk_at dksX6_laysChain_2 9 rfl rfl)
theorem dX6_laysChain_58 : decode cX6_laysChain 58 = .ok (.iload_n 2, 1) := dk_28 (dk_at dksX6_laysChain_2 10 rfl rfl)
theorem dX6_laysChain_59 : decode cX6_laysChain 59 = .ok (.putfield 92, 3) := dk_181 0 92 (dk_at dksX6_laysChain_2 11 rfl rfl)
theorem dX6_laysChain_62 : decode cX6_laysChain 62 = .ok (.return_, 1) := dk_177 (dk_at dksX6_laysChain_2 14 rfl rfl)
abbrev cX6_hasInnAt : ByteArray := prog_12_method_8_code
def yX6_hasInnAt : MethodName := ⟨RX6, "hasInnAt", "([II)Z"⟩
def dkwX6_hasInnAt_1 : List UInt8 := [167, 0, 4, 3, 172]
abbrev dktX6_hasInnAt_1 : List UInt8 := dkwX6_hasInnAt_1 ++ []
def dkwX6_hasInnAt_0 : List UInt8 := [27, 133, 9, 20, 0, 59, 184, 0, 61, 153, 0, 16, 42, 6, 27, 96, 46, 4, 160, 0, 7, 4]
abbrev dktX6_hasInnAt_0 : List UInt8 := dkwX6_hasInnAt_0 ++ dktX6_hasInnAt_1
theorem dksX6_hasInnAt_0 : cX6_hasInnAt.data.toList.drop 0 = dktX6_hasInnAt_0 := by decide +kernel
theorem dksX6_hasInnAt_1 : cX6_hasInnAt.data.toList.drop 22 = dktX6_hasInnAt_1 := dk_seg dksX6_hasInnAt_0 22 rfl rfl
theorem dX6_hasInnAt_0 : decode cX6_hasInnAt 0 = .ok (.iload_n 1, 1) := dk_27 (dk_at dksX6_hasInnAt_0 0 rfl rfl)
theorem dX6_hasInnAt_1 : decode cX6_hasInnAt 1 = .ok (.i2l, 1) := dk_133 (dk_at dksX6_hasInnAt_0 1 rfl rfl)
theorem dX6_hasInnAt_2 : decode cX6_hasInnAt 2 = .ok (.lconst 0, 1) := dk_9 (dk_at dksX6_hasInnAt_0 2 rfl rfl)
theorem dX6_hasInnAt_3 : decode cX6_hasInnAt 3 = .ok (.ldc2_w 59, 3) := dk_20 0 59 (dk_at dksX6_hasInnAt_0 3 rfl rfl)
theorem dX6_hasInnAt_6 : decode cX6_hasInnAt 6 = .ok (.invokestatic 61, 3) := dk_184 0 61 (dk_at dksX6_hasInnAt_0 6 rfl rfl)
theorem dX6_hasInnAt_9 : decode cX6_hasInnAt 9 = .ok (.ifCond .eq 16, 3) := dk_153 0 16 (dk_at dksX6_hasInnAt_0 9 rfl rfl)
theorem dX6_hasInnAt_12 : decode cX6_hasInnAt 12 = .ok (.aload_n 0, 1) := dk_42 (dk_at dksX6_hasInnAt_0 12 rfl rfl)
theorem dX6_hasInnAt_13 : decode cX6_hasInnAt 13 = .ok (.iconst 3, 1) := dk_6 (dk_at dksX6_hasInnAt_0 13 rfl rfl)
theorem dX6_hasInnAt_14 : decode cX6_hasInnAt 14 = .ok (.iload_n 1, 1) := dk_27 (dk_at dksX6_hasInnAt_0 14 rfl rfl)
theorem dX6_hasInnAt_15 : decode cX6_hasInnAt 15 = .ok (.iadd, 1) := dk_96 (dk_at dksX6_hasInnAt_0 15 rfl rfl)
theorem dX6_hasInnAt_16 : decode cX6_hasInnAt 16 = .ok (.iaload, 1) := dk_46 (dk_at dksX6_hasInnAt_0 16 rfl rfl)
theorem dX6_hasInnAt_17 : decode cX6_hasInnAt 17 = .ok (.iconst 1, 1) := dk_4 (dk_at dksX6_hasInnAt_0 17 rfl rfl)
theorem dX6_hasInnAt_18 : decode cX6_hasInnAt 18 = .ok (.if_icmp .ne 7, 3) := dk_160 0 7 (dk_at dksX6_hasInnAt_0 18 rfl rfl)
theorem dX6_hasInnAt_21 : decode cX6_hasInnAt 21 = .ok (.iconst 1, 1) := dk_4 (dk_at dksX6_hasInnAt_0 21 rfl rfl)
theorem dX6_hasInnAt_22 : decode cX6_hasInnAt 22 = .ok (.goto 4, 3) := dk_167 0 4 (dk_at dksX6_hasInnAt_1 0 rfl rfl)
theorem dX6_hasInnAt_25 : decode cX6_hasInnAt 25 = .ok (.iconst 0, 1) := dk_3 (dk_at dksX6_hasInnAt_1 3 rfl rfl)
theorem dX6_hasInnAt_26 : decode cX6_hasInnAt 26 = .ok (.ireturn, 1) := dk_172 (dk_at dksX6_hasInnAt_1 4 rfl rfl)
abbrev cX6_positionOf : ByteArray := prog_12_method_18_code
def yX6_positionOf : MethodName := ⟨RX6, "positionOf", "(I)I"⟩
def dkwX6_positionOf_1 : List UInt8 := [132, 2, 1, 167, 255, 233, 2, 172]
abbrev dktX6_positionOf_1 : List UInt8 := dkwX6_positionOf_1 ++ []
def dkwX6_positionOf_0 : List UInt8 := [3, 61, 28, 42, 180, 0, 82, 162, 0, 21, 42, 180, 0, 34, 28, 46, 27, 160, 0, 5, 28, 172]
abbrev dktX6_positionOf_0 : List UInt8 := dkwX6_positionOf_0 ++ dktX6_positionOf_1
theorem dksX6_positionOf_0 : cX6_positionOf.data.toList.drop 0 = dktX6_positionOf_0 := by decide +kernel
theorem dksX6_positionOf_1 : cX6_positionOf.data.toList.drop 22 = dktX6_positionOf_1 := dk_seg dksX6_positionOf_0 22 rfl rfl
theorem dX6_positionOf_0 : decode cX6_positionOf 0 = .ok (.iconst 0, 1) := dk_3 (dk_at dksX6_positionOf_0 0 rfl rfl)
theorem dX6_positionOf_1 : decode cX6_positionOf 1 = .ok (.istore_n 2, 1) := dk_61 (dk_at dksX6_positionOf_0 1 rfl rfl)
theorem dX6_positionOf_2 : decode cX6_positionOf 2 = .ok (.iload_n 2, 1) := dk_28 (dk_at dksX6_positionOf_0 2 rfl rfl)
theorem dX6_positionOf_3 : decode cX6_positionOf 3 = .ok (.aload_n 0, 1) := dk_42 (dk_at dksX6_positionOf_0 3 rfl rfl)
theorem dX6_positionOf_4 : decode cX6_positionOf 4 = .ok (.getfield 82, 3) := dk_180 0 82 (dk_at dksX6_positionOf_0 4 rfl rfl)
theorem dX6_positionOf_7 : decode cX6_positionOf 7 = .ok (.if_icmp .ge 21, 3) := dk_162 0 21 (dk_at dksX6_positionOf_0 7 rfl rfl)
theorem dX6_positionOf_10 : decode cX6_positionOf 10 = .ok (.aload_n 0, 1) := dk_42 (dk_at dksX6_positionOf_0 10 rfl rfl)
theorem dX6_positionOf_11 : decode cX6_positionOf 11 = .ok (.getfield 34, 3) := dk_180 0 34 (dk_at dksX6_positionOf_0 11 rfl rfl)
theorem dX6_positionOf_14 : decode cX6_positionOf 14 = .ok (.iload_n 2, 1) := dk_28 (dk_at dksX6_positionOf_0 14 rfl rfl)
theorem dX6_positionOf_15 : decode cX6_positionOf 15 = .ok (.iaload, 1) := dk_46 (dk_at dksX6_positionOf_0 15 rfl rfl)
theorem dX6_positionOf_16 : decode cX6_positionOf 16 = .ok (.iload_n 1, 1) := dk_27 (dk_at dksX6_positionOf_0 16 rfl rfl)
theorem dX6_positionOf_17 : decode cX6_positionOf 17 = .ok (.if_icmp .ne 5, 3) := dk_160 0 5 (dk_at dksX6_positionOf_0 17 rfl rfl)
theorem dX6_positionOf_20 : decode cX6_positionOf 20 = .ok (.iload_n 2, 1) := dk_28 (dk_at dksX6_positionOf_0 20 rfl rfl)
theorem dX6_positionOf_21 : decode cX6_positionOf 21 = .ok (.ireturn, 1) := dk_172 (dk_at dksX6_positionOf_0 21 rfl rfl)
theorem dX6_positionOf_22 : decode cX6_positionOf 22 = .ok (.iinc 2 1, 3) := dk_132 2 1 (dk_at dksX6_positionOf_1 0 rfl rfl)
theorem dX6_positionOf_25 : decode cX6_positionOf 25 = .ok (.goto (-23), 3) := dk_167 255 233 (dk_at dksX6_positionOf_1 3 rfl rfl)
theorem dX6_positionOf_28 : decode cX6_positionOf 28 = .ok (.iconst (-1), 1) := dk_2 (dk_at dksX6_positionOf_1 6 rfl rfl)
theorem dX6_positionOf_29 : decode cX6_positionOf 29 = .ok (.ireturn, 1) := dk_172 (dk_at dksX6_positionOf_1 7 rfl rfl)
abbrev cX6_nextOf : ByteArray := prog_12_method_19_code
def yX6_nextOf : MethodName := ⟨RX6, "nextOf", "([II)I"⟩
def dkwX6_nextOf_0 : List UInt8 := [42, 27, 184, 0, 85, 153, 0, 12, 42, 16, 54, 27, 96, 46, 167, 0, 4, 2, 172]
abbrev dktX6_nextOf_0 : List UInt8 := dkwX6_nextOf_0 ++ []
theorem dksX6_nextOf_0 : cX6_nextOf.data.toList.drop 0 = dktX6_nextOf_0 := by decide +kernel
theorem dX6_nextOf_0 : decode cX6_nextOf 0 = .ok (.aload_n 0, 1) := dk_42 (dk_at dksX6_nextOf_0 0 rfl rfl)
theorem dX6_nextOf_1 : decode cX6_nextOf 1 = .ok (.iload_n 1, 1) := dk_27 (dk_at dksX6_nextOf_0 1 rfl rfl)
theorem dX6_nextOf_2 : decode cX6_nextOf 2 = .ok (.invokestatic 85, 3) := dk_184 0 85 (dk_at dksX6_nextOf_0 2 rfl rfl)
theorem dX6_nextOf_5 : decode cX6_nextOf 5 = .ok (.ifCond .eq 12, 3) := dk_153 0 12 (dk_at dksX6_nextOf_0 5 rfl rfl)
theorem dX6_nextOf_8 : decode cX6_nextOf 8 = .ok (.aload_n 0, 1) := dk_42 (dk_at dksX6_nextOf_0 8 rfl rfl)
theorem dX6_nextOf_9 : decode cX6_nextOf 9 = .ok (.bipush 54, 2) := dk_16 54 (dk_at dksX6_nextOf_0 9 rfl rfl)
theorem dX6_nextOf_11 : decode cX6_nextOf 11 = .ok (.iload_n 1, 1) := dk_27 (dk_at dksX6_nextOf_0 11 rfl rfl)
theorem dX6_nextOf_12 : decode cX6_nextOf 12 = .ok (.iadd, 1) := dk_96 (dk_at dksX6_nextOf_0 12 rfl rfl)
theorem dX6_nextOf_13 : decode cX6_nextOf 13 = .ok (.iaload, 1) := dk_46 (dk_at dksX6_nextOf_0 13 rfl rfl)
theorem dX6_nextOf_14 : decode cX6_nextOf 14 = .ok (.goto 4, 3) := dk_167 0 4 (dk_at dksX6_nextOf_0 14 rfl rfl)
theorem dX6_nextOf_17 : decode cX6_nextOf 17 = .ok (.iconst (-1), 1) := dk_2 (dk_at dksX6_nextOf_0 17 rfl rfl)
theorem dX6_nextOf_18 : decode cX6_nextOf 18 = .ok (.ireturn, 1) := dk_172 (dk_at dksX6_nextOf_0 18 rfl rfl)
abbrev cX6_removeInn : ByteArray := prog_12_method_46_code
def yX6_removeInn : MethodName := ⟨RX6, "removeInn", "(I)I"⟩
def dkwX6_removeInn_2 : List UInt8 := [27, 96, 3, 79, 42, 180, 0, 13, 184, 0, 48, 42, 180, 0, 13, 16, 39, 27, 96, 46, 172]
abbrev dktX6_removeInn_2 : List UInt8 := dkwX6_removeInn_2 ++ []
def dkwX6_removeInn_1 : List UInt8 := [180, 0, 13, 182, 0, 101, 154, 0, 9, 42, 5, 182, 0, 136, 172, 42, 182, 0, 242, 42, 180, 0, 13, 6]
abbrev dktX6_removeInn_1 : List UInt8 := dkwX6_removeInn_1 ++ dktX6_removeInn_2
def dkwX6_removeInn_0 : List UInt8 := [42, 3, 181, 0, 3, 42, 180, 0, 13, 27, 184, 0, 85, 154, 0, 9, 42, 4, 182, 0, 136, 172, 42, 42]
abbrev dktX6_removeInn_0 : List UInt8 := dkwX6_removeInn_0 ++ dktX6_removeInn_1
theorem dksX6_removeInn_0 : cX6_removeInn.data.toList.drop 0 = dktX6_removeInn_0 := by decide +kernel
theorem dksX6_removeInn_1 : cX6_removeInn.data.toList.drop 24 = dktX6_removeInn_1 := dk_seg dksX6_removeInn_0 24 rfl rfl
theorem dksX6_removeInn_2 : cX6_removeInn.data.toList.drop 48 = dktX6_removeInn_2 := dk_seg dksX6_removeInn_1 24 rfl rfl
theorem dX6_removeInn_0 : decode cX6_removeInn 0 = .ok (.aload_n 0, 1) := dk_42 (dk_at dksX6_removeInn_0 0 rfl rfl)
theorem dX6_removeInn_1 : decode cX6_removeInn 1 = .ok (.iconst 0, 1) := dk_3 (dk_at dksX6_removeInn_0 1 rfl rfl)
theorem dX6_removeInn_2 : decode cX6_removeInn 2 = .ok (.putfield 3, 3) := dk_181 0 3 (dk_at dksX6_removeInn_0 2 rfl rfl)
theorem dX6_removeInn_5 : decode cX6_removeInn 5 = .ok (.aload_n 0, 1) := dk_42 (dk_at dksX6_removeInn_0 5 rfl rfl)
theorem dX6_removeInn_6 : decode cX6_removeInn 6 = .ok (.getfield 13, 3) := dk_180 0 13 (dk_at dksX6_removeInn_0 6 rfl rfl)
theorem dX6_removeInn_9 : decode cX6_removeInn 9 = .ok (.iload_n 1, 1) := dk_27 (dk_at dksX6_removeInn_0 9 rfl rfl)
theorem dX6_removeInn_10 : decode cX6_removeInn 10 = .ok (.invokestatic 85, 3) := dk_184 0 85 (dk_at dksX6_removeInn_0 10 rfl rfl)
theorem dX6_removeInn_13 : decode cX6_removeInn 13 = .ok (.ifCond .ne 9, 3) := dk_154 0 9 (dk_at dksX6_removeInn_0 13 rfl rfl)
theorem dX6_removeInn_16 : decode cX6_removeInn 16 = .ok (.aload_n 0, 1) := dk_42 (dk_at dksX6_removeInn_0 16 rfl rfl)
theorem dX6_removeInn_17 : decode cX6_removeInn 17 = .ok (.iconst 1, 1) := dk_4 (dk_at dksX6_removeInn_0 17 rfl rfl)
theorem dX6_removeInn_18 : decode cX6_removeInn 18 = .ok (.invokevirtual 136, 3) := dk_182 0 136 (dk_at dksX6_removeInn_0 18 rfl rfl)
theorem dX6_removeInn_21 : decode cX6_removeInn 21 = .ok (.ireturn, 1) := dk_172 (dk_at dksX6_removeInn_0 21 rfl rfl)
theorem dX6_removeInn_22 : decode cX6_removeInn 22 = .ok (.aload_n 0, 1) := dk_42 (dk_at dksX6_removeInn_0 22 rfl rfl)
theorem dX6_removeInn_23 : decode cX6_removeInn 23 = .ok (.aload_n 0, 1) := dk_42 (dk_at dksX6_removeInn_0 23 rfl rfl)
theorem dX6_removeInn_24 : decode cX6_removeInn 24 = .ok (.getfield 13, 3) := dk_180 0 13 (dk_at dksX6_removeInn_1 0 rfl rfl)
theorem dX6_removeInn_27 : decode cX6_removeInn 27 = .ok (.invokevirtual 101, 3) := dk_182 0 101 (dk_at dksX6_removeInn_1 3 rfl rfl)
theorem dX6_removeInn_30 : decode cX6_removeInn 30 = .ok (.ifCond .ne 9, 3) := dk_154 0 9 (dk_at dksX6_removeInn_1 6 rfl rfl)
theorem dX6_removeInn_33 : decode cX6_removeInn 33 = .ok (.aload_n 0, 1) := dk_42 (dk_at dksX6_removeInn_1 9 rfl rfl)
theorem dX6_removeInn_34 : decode cX6_removeInn 34 = .ok (.iconst 2, 1) := dk_5 (dk_at dksX6_removeInn_1 10 rfl rfl)
theorem dX6_removeInn_35 : decode cX6_removeInn 35 = .ok (.invokevirtual 136, 3) := dk_182 0 136 (dk_at dksX6_removeInn_1 11 rfl rfl)
theorem dX6_removeInn_38 : decode cX6_removeInn 38 = .ok (.ireturn, 1) := dk_172 (dk_at dksX6_removeInn_1 14 rfl rfl)
theorem dX6_removeInn_39 : decode cX6_removeInn 39 = .ok (.aload_n 0, 1) := dk_42 (dk_at dksX6_removeInn_1 15 rfl rfl)
theorem dX6_removeInn_40 : decode cX6_removeInn 40 = .ok (.invokevirtual 242, 3) := dk_182 0 242 (dk_at dksX6_removeInn_1 16 rfl rfl)
theorem dX6_removeInn_43 : decode cX6_removeInn 43 = .ok (.aload_n 0, 1) := dk_42 (dk_at dksX6_removeInn_1 19 rfl rfl)
theorem dX6_removeInn_44 : decode cX6_removeInn 44 = .ok (.getfield 13, 3) := dk_180 0 13 (dk_at dksX6_removeInn_1 20 rfl rfl)
theorem dX6_removeInn_47 : decode cX6_removeInn 47 = .ok (.iconst 3, 1) := dk_6 (dk_at dksX6_removeInn_1 23 rfl rfl)
theorem dX6_removeInn_48 : decode cX6_removeInn 48 = .ok (.iload_n 1, 1) := dk_27 (dk_at dksX6_removeInn_2 0 rfl rfl)
theorem dX6_removeInn_49 : decode cX6_removeInn 49 = .ok (.iadd, 1) := dk_96 (dk_at dksX6_removeInn_2 1 rfl rfl)
theorem dX6_removeInn_50 : decode cX6_removeInn 50 = .ok (.iconst 0, 1) := dk_3 (dk_at dksX6_removeInn_2 2 rfl rfl)
theorem dX6_removeInn_51 : decode cX6_removeInn 51 = .ok (.iastore, 1) := dk_79 (dk_at dksX6_removeInn_2 3 rfl rfl)
theorem dX6_removeInn_52 : decode cX6_removeInn 52 = .ok (.aload_n 0, 1) := dk_42 (dk_at dksX6_removeInn_2 4 rfl rfl)
theorem dX6_removeInn_53 : decode cX6_removeInn 53 = .ok (.getfield 13, 3) := dk_180 0 13 (dk_at dksX6_removeInn_2 5 rfl rfl)
theorem dX6_removeInn_56 : decode cX6_removeInn 56 = .ok (.invokestatic 48, 3) := dk_184 0 48 (dk_at dksX6_removeInn_2 8 rfl rfl)
theorem dX6_removeInn_59 : decode cX6_removeInn 59 = .ok (.aload_n 0, 1) := dk_42 (dk_at dksX6_removeInn_2 11 rfl rfl)
theorem dX6_removeInn_60 : decode cX6_removeInn 60 = .ok (.getfield 13, 3) := dk_180 0 13 (dk_at dksX6_removeInn_2 12 rfl rfl)
theorem dX6_removeInn_63 : decode cX6_removeInn 63 = .ok (.bipush 39, 2) := dk_16 39 (dk_at dksX6_removeInn_2 15 rfl rfl)
theorem dX6_removeInn_65 : decode cX6_removeInn 65 = .ok (.iload_n 1, 1) := dk_27 (dk_at dksX6_removeInn_2 17 rfl rfl)
theorem dX6_removeInn_66 : decode cX6_removeInn 66 = .ok (.iadd, 1) := dk_96 (dk_at dksX6_removeInn_2 18 rfl rfl)
theorem dX6_removeInn_67 : decode cX6_removeInn 67 = .ok (.iaload, 1) := dk_46 (dk_at dksX6_removeInn_2 19 rfl rfl)
theorem dX6_removeInn_68 : decode cX6_removeInn 68 = .ok (.ireturn, 1) := dk_172 (dk_at dksX6_removeInn_2 20 rfl rfl)
abbrev cX6_openInn : ByteArray := prog_12_method_48_code
def yX6_openInn : MethodName := ⟨RX6, "openInn", "(I)Z"⟩
def dkwX6_openInn_0 : List UInt8 := [42, 3, 181, 0, 3, 42, 27, 4, 182, 0, 247, 172]
abbrev dktX6_openInn_0 : List UInt8 := dkwX6_openInn_0 ++ []
theorem dksX6_openInn_0 : cX6_openInn.data.toList.drop 0 = dktX6_openInn_0 := by decide +kernel
theorem dX6_openInn_0 : decode cX6_openInn 0 = .ok (.aload_n 0, 1) := dk_42 (dk_at dksX6_openInn_0 0 rfl rfl)
theorem dX6_openInn_1 : decode cX6_openInn 1 = .ok (.iconst 0, 1) := dk_3 (dk_at dksX6_openInn_0 1 rfl rfl)
theorem dX6_openInn_2 : decode cX6_openInn 2 = .ok (.putfield 3, 3) := dk_181 0 3 (dk_at dksX6_openInn_0 2 rfl rfl)
theorem dX6_openInn_5 : decode cX6_openInn 5 = .ok (.aload_n 0, 1) := dk_42 (dk_at dksX6_openInn_0 5 rfl rfl)
theorem dX6_openInn_6 : decode cX6_openInn 6 = .ok (.iload_n 1, 1) := dk_27 (dk_at dksX6_openInn_0 6 rfl rfl)
theorem dX6_openInn_7 : decode cX6_openInn 7 = .ok (.iconst 1, 1) := dk_4 (dk_at dksX6_openInn_0 7 rfl rfl)
theorem dX6_openInn_8 : decode cX6_openInn 8 = .ok (.invokevirtual 247, 3) := dk_182 0 247 (dk_at dksX6_openInn_0 8 rfl rfl)
theorem dX6_openInn_11 : decode cX6_openInn 11 = .ok (.ireturn, 1) := dk_172 (dk_at dksX6_openInn_0 11 rfl rfl)
abbrev cX6_setsOpen : ByteArray := prog_12_method_47_code
def yX6_setsOpen : MethodName := ⟨RX6, "setsOpen", "(II)Z"⟩
def dkwX6_setsOpen_2 : List UInt8 := [27, 96, 28, 79, 29, 172]
abbrev dktX6_setsOpen_2 : List UInt8 := dkwX6_setsOpen_2 ++ []
def dkwX6_setsOpen_1 : List UInt8 := [180, 0, 13, 16, 27, 27, 96, 46, 4, 160, 0, 7, 4, 167, 0, 4, 3, 62, 42, 180, 0, 13, 16, 27]
abbrev dktX6_setsOpen_1 : List UInt8 := dkwX6_setsOpen_1 ++ dktX6_setsOpen_2
def dkwX6_setsOpen_0 : List UInt8 := [42, 180, 0, 13, 27, 184, 0, 85, 154, 0, 10, 42, 4, 181, 0, 3, 3, 172, 42, 182, 0, 242, 42]
abbrev dktX6_setsOpen_0 : List UInt8 := dkwX6_setsOpen_0 ++ dktX6_setsOpen_1
theorem dksX6_setsOpen_0 : cX6_setsOpen.data.toList.drop 0 = dktX6_setsOpen_0 := by decide +kernel
theorem dksX6_setsOpen_1 : cX6_setsOpen.data.toList.drop 23 = dktX6_setsOpen_1 := dk_seg dksX6_setsOpen_0 23 rfl rfl
theorem dksX6_setsOpen_2 : cX6_setsOpen.data.toList.drop 47 = dktX6_setsOpen_2 := dk_seg dksX6_setsOpen_1 24 rfl rfl
theorem dX6_setsOpen_0 : decode cX6_setsOpen 0 = .ok (.aload_n 0, 1) := dk_42 (dk_at dksX6_setsOpen_0 0 rfl rfl)
theorem dX6_setsOpen_1 : decode cX6_setsOpen 1 = .ok (.getfield 13, 3) := dk_180 0 13 (dk_at dksX6_setsOpen_0 1 rfl rfl)
theorem dX6_setsOpen_4 : decode cX6_setsOpen 4 = .ok (.iload_n 1, 1) := dk_27 (dk_at dksX6_setsOpen_0 4 rfl rfl)
theorem dX6_setsOpen_5 : decode cX6_setsOpen 5 = .ok (.invokestatic 85, 3) := dk_184 0 85 (dk_at dksX6_setsOpen_0 5 rfl rfl)
theorem dX6_setsOpen_8 : decode cX6_setsOpen 8 = .ok (.ifCond .ne 10, 3) := dk_154 0 10 (dk_at dksX6_setsOpen_0 8 rfl rfl)
theorem dX6_setsOpen_11 : decode cX6_setsOpen 11 = .ok (.aload_n 0, 1) := dk_42 (dk_at dksX6_setsOpen_0 11 rfl rfl)
theorem dX6_setsOpen_12 : decode cX6_setsOpen 12 = .ok (.iconst 1, 1) := dk_4 (dk_at dksX6_setsOpen_0 12 rfl rfl)
theorem dX6_setsOpen_13 : decode cX6_setsOpen 13 = .ok (.putfield 3, 3) := dk_181 0 3 (dk_at dksX6_setsOpen_0 13 rfl rfl)
theorem dX6_setsOpen_16 : decode cX6_setsOpen 16 = .ok (.iconst 0, 1) := dk_3 (dk_at dksX6_setsOpen_0 16 rfl rfl)
theorem dX6_setsOpen_17 : decode cX6_setsOpen 17 = .ok (.ireturn, 1) := dk_172 (dk_at dksX6_setsOpen_0 17 rfl rfl)
theorem dX6_setsOpen_18 : decode cX6_setsOpen 18 = .ok (.aload_n 0, 1) := dk_42 (dk_at dksX6_setsOpen_0 18 rfl rfl)
theorem dX6_setsOpen_19 : decode cX6_setsOpen 19 = .ok (.invokevirtual 242, 3) := dk_182 0 242 (dk_at dksX6_setsOpen_0 19 rfl rfl)
theorem dX6_setsOpen_22 : decode cX6_setsOpen 22 = .ok (.aload_n 0, 1) := dk_42 (dk_at dksX6_setsOpen_0 22 rfl rfl)
theorem dX6_setsOpen_23 : decode cX6_setsOpen 23 = .ok (.getfield 13, 3) := dk_180 0 13 (dk_at dksX6_setsOpen_1 0 rfl rfl)
theorem dX6_setsOpen_26 : decode cX6_setsOpen 26 = .ok (.bipush 27, 2) := dk_16 27 (dk_at dksX6_setsOpen_1 3 rfl rfl)
theorem dX6_setsOpen_28 : decode cX6_setsOpen 28 = .ok (.iload_n 1, 1) := dk_27 (dk_at dksX6_setsOpen_1 5 rfl rfl)
theorem dX6_setsOpen_29 : decode cX6_setsOpen 29 = .ok (.iadd, 1) := dk_96 (dk_at dksX6_setsOpen_1 6 rfl rfl)
theorem dX6_setsOpen_30 : decode cX6_setsOpen 30 = .ok (.iaload, 1) := dk_46 (dk_at dksX6_setsOpen_1 7 rfl rfl)
theorem dX6_setsOpen_31 : decode cX6_setsOpen 31 = .ok (.iconst 1, 1) := dk_4 (dk_at dksX6_setsOpen_1 8 rfl rfl)
theorem dX6_setsOpen_32 : decode cX6_setsOpen 32 = .ok (.if_icmp .ne 7, 3) := dk_160 0 7 (dk_at dksX6_setsOpen_1 9 rfl rfl)
theorem dX6_setsOpen_35 : decode cX6_setsOpen 35 = .ok (.iconst 1, 1) := dk_4 (dk_at dksX6_setsOpen_1 12 rfl rfl)
theorem dX6_setsOpen_36 : decode cX6_setsOpen 36 = .ok (.goto 4, 3) := dk_167 0 4 (dk_at dksX6_setsOpen_1 13 rfl rfl)
theorem dX6_setsOpen_39 : decode cX6_setsOpen 39 = .ok (.iconst 0, 1) := dk_3 (dk_at dksX6_setsOpen_1 16 rfl rfl)
theorem dX6_setsOpen_40 : decode cX6_setsOpen 40 = .ok (.istore_n 3, 1) := dk_62 (dk_at dksX6_setsOpen_1 17 rfl rfl)
theorem dX6_setsOpen_41 : decode cX6_setsOpen 41 = .ok (.aload_n 0, 1) := dk_42 (dk_at dksX6_setsOpen_1 18 rfl rfl)
theorem dX6_setsOpen_42 : decode cX6_setsOpen 42 = .ok (.getfield 13, 3) := dk_180 0 13 (dk_at dksX6_setsOpen_1 19 rfl rfl)
theorem dX6_setsOpen_45 : decode cX6_setsOpen 45 = .ok (.bipush 27, 2) := dk_16 27 (dk_at dksX6_setsOpen_1 22 rfl rfl)
theorem dX6_setsOpen_47 : decode cX6_setsOpen 47 = .ok (.iload_n 1, 1) := dk_27 (dk_at dksX6_setsOpen_2 0 rfl rfl)
theorem dX6_setsOpen_48 : decode cX6_setsOpen 48 = .ok (.iadd, 1) := dk_96 (dk_at dksX6_setsOpen_2 1 rfl rfl)
theorem dX6_setsOpen_49 : decode cX6_setsOpen 49 = .ok (.iload_n 2, 1) := dk_28 (dk_at dksX6_setsOpen_2 2 rfl rfl)
theorem dX6_setsOpen_50 : decode cX6_setsOpen 50 = .ok (.iastore, 1) := dk_79 (dk_at dksX6_setsOpen_2 3 rfl rfl)
theorem dX6_setsOpen_51 : decode cX6_setsOpen 51 = .ok (.iload_n 3, 1) := dk_29 (dk_at dksX6_setsOpen_2 4 rfl rfl)
theorem dX6_setsOpen_52 : decode cX6_setsOpen 52 = .ok (.ireturn, 1) := dk_172 (dk_at dksX6_setsOpen_2 5 rfl rfl)
abbrev cX6_closeInn : ByteArray := prog_12_method_49_code
def yX6_closeInn : MethodName := ⟨RX6, "closeInn", "(I)Z"⟩
def dkwX6_closeInn_0 : List UInt8 := [42, 3, 181, 0, 3, 42, 27, 3, 182, 0, 247, 172]
abbrev dktX6_closeInn_0 : List UInt8 := dkwX6_closeInn_0 ++ []
theorem dksX6_closeInn_0 : cX6_closeInn.data.toList.drop 0 = dktX6_closeInn_0 := by decide +kernel
theorem dX6_closeInn_0 : decode cX6_closeInn 0 = .ok (.aload_n 0, 1) := dk_42 (dk_at dksX6_closeInn_0 0 rfl rfl)
theorem dX6_closeInn_1 : decode cX6_closeInn 1 = .ok (.iconst 0, 1) := dk_3 (dk_at dksX6_closeInn_0 1 rfl rfl)
theorem dX6_closeInn_2 : decode cX6_closeInn 2 = .ok (.putfield 3, 3) := dk_181 0 3 (dk_at dksX6_closeInn_0 2 rfl rfl)
theorem dX6_closeInn_5 : decode cX6_closeInn 5 = .ok (.aload_n 0, 1) := dk_42 (dk_at dksX6_closeInn_0 5 rfl rfl)
theorem dX6_closeInn_6 : decode cX6_closeInn 6 = .ok (.iload_n 1, 1) := dk_27 (dk_at dksX6_closeInn_0 6 rfl rfl)
theorem dX6_closeInn_7 : decode cX6_closeInn 7 = .ok (.iconst 0, 1) := dk_3 (dk_at dksX6_closeInn_0 7 rfl rfl)
theorem dX6_closeInn_8 : decode cX6_closeInn 8 = .ok (.invokevirtual 247, 3) := dk_182 0 247 (dk_at dksX6_closeInn_0 8 rfl rfl)
theorem dX6_closeInn_11 : decode cX6_closeInn 11 = .ok (.ireturn, 1) := dk_172 (dk_at dksX6_closeInn_0 11 rfl rfl)
abbrev cX6_snow : ByteArray := prog_12_method_50_code
def yX6_snow : MethodName := ⟨RX6, "snow", "(II)I"⟩
def dkwX6_snow_4 : List UInt8 := [96, 46, 96, 62, 42, 180, 0, 13, 16, 27, 21, 4, 96, 3, 79, 132, 4, 1, 167, 255, 188, 29, 172]
abbrev dktX6_snow_4 : List UInt8 := dkwX6_snow_4 ++ []
def dkwX6_snow_3 : List UInt8 := [21, 4, 96, 46, 133, 27, 133, 28, 133, 184, 0, 61, 153, 0, 27, 29, 42, 180, 0, 13, 16, 27, 21, 4]
abbrev dktX6_snow_3 : List UInt8 := dkwX6_snow_3 ++ dktX6_snow_4
def dkwX6_snow_2 : List UInt8 := [16, 12, 162, 0, 67, 42, 180, 0, 13, 6, 21, 4, 96, 46, 4, 160, 0, 48, 42, 180, 0, 13, 16, 15]
abbrev dktX6_snow_2 : List UInt8 := dkwX6_snow_2 ++ dktX6_snow_3
def dkwX6_snow_1 : List UInt8 := [184, 0, 61, 154, 0, 9, 42, 4, 182, 0, 136, 172, 42, 182, 0, 242, 3, 62, 3, 54, 4, 21, 4]
abbrev dktX6_snow_1 : List UInt8 := dkwX6_snow_1 ++ dktX6_snow_2
def dkwX6_snow_0 : List UInt8 := [42, 3, 181, 0, 3, 27, 133, 9, 20, 0, 245, 184, 0, 61, 153, 0, 16, 28, 133, 27, 133, 20, 0, 245]
abbrev dktX6_snow_0 : List UInt8 := dkwX6_snow_0 ++ dktX6_snow_1
theorem dksX6_snow_0 : cX6_snow.data.toList.drop 0 = dktX6_snow_0 := by decide +kernel
theorem dksX6_snow_1 : cX6_snow.data.toList.drop 24 = dktX6_snow_1 := dk_seg dksX6_snow_0 24 rfl rfl
theorem dksX6_snow_2 : cX6_snow.data.toList.drop 47 = dktX6_snow_2 := dk_seg dksX6_snow_1 23 rfl rfl
theorem dksX6_snow_3 : cX6_snow.data.toList.drop 71 = dktX6_snow_3 := dk_seg dksX6_snow_2 24 rfl rfl
theorem dksX6_snow_4 : cX6_snow.data.toList.drop 95 = dktX6_snow_4 := dk_seg dksX6_snow_3 24 rfl rfl
theorem dX6_snow_0 : decode cX6_snow 0 = .ok (.aload_n 0, 1) := dk_42 (dk_at dksX6_snow_0 0 rfl rfl)
theorem dX6_snow_1 : decode cX6_snow 1 = .ok (.iconst 0, 1) := dk_3 (dk_at dksX6_snow_0 1 rfl rfl)
theorem dX6_snow_2 : decode cX6_snow 2 = .ok (.putfield 3, 3) := dk_181 0 3 (dk_at dksX6_snow_0 2 rfl rfl)
theorem dX6_snow_5 : decode cX6_snow 5 = .ok (.iload_n 1, 1) := dk_27 (dk_at dksX6_snow_0 5 rfl rfl)
theorem dX6_snow_6 : decode cX6_snow 6 = .ok (.i2l, 1) := dk_133 (dk_at dksX6_snow_0 6 rfl rfl)
theorem dX6_snow_7 : decode cX6_snow 7 = .ok (.lconst 0, 1) := dk_9 (dk_at dksX6_snow_0 7 rfl rfl)
theorem dX6_snow_8 : decode cX6_snow 8 = .ok (.ldc2_w 245, 3) := dk_20 0 245 (dk_at dksX6_snow_0 8 rfl rfl)
theorem dX6_snow_11 : decode cX6_snow 11 = .ok (.invokestatic 61, 3) := dk_184 0 61 (dk_at dksX6_snow_0 11 rfl rfl)
theorem dX6_snow_14 : decode cX6_snow 14 = .ok (.ifCond .eq 16, 3) := dk_153 0 16 (dk_at dksX6_snow_0 14 rfl rfl)
theorem dX6_snow_17 : decode cX6_snow 17 = .ok (.iload_n 2, 1) := dk_28 (dk_at dksX6_snow_0 17 rfl rfl)
theorem dX6_snow_18 : decode cX6_snow 18 = .ok (.i2l, 1) := dk_133 (dk_at dksX6_snow_0 18 rfl rfl)
theorem dX6_snow_19 : decode cX6_snow 19 = .ok (.iload_n 1, 1) := dk_27 (dk_at dksX6_snow_0 19 rfl rfl)
theorem dX6_snow_20 : decode cX6_snow 20 = .ok (.i2l, 1) := dk_133 (dk_at dksX6_snow_0 20 rfl rfl)
theorem dX6_snow_21 : decode cX6_snow 21 = .ok (.ldc2_w 245, 3) := dk_20 0 245 (dk_at dksX6_snow_0 21 rfl rfl)
theorem dX6_snow_24 : decode cX6_snow 24 = .ok (.invokestatic 61, 3) := dk_184 0 61 (dk_at dksX6_snow_1 0 rfl rfl)
theorem dX6_snow_27 : decode cX6_snow 27 = .ok (.ifCond .ne 9, 3) := dk_154 0 9 (dk_at dksX6_snow_1 3 rfl rfl)
theorem dX6_snow_30 : decode cX6_snow 30 = .ok (.aload_n 0, 1) := dk_42 (dk_at dksX6_snow_1 6 rfl rfl)
theorem dX6_snow_31 : decode cX6_snow 31 = .ok (.iconst 1, 1) := dk_4 (dk_at dksX6_snow_1 7 rfl rfl)
theorem dX6_snow_32 : decode cX6_snow 32 = .ok (.invokevirtual 136, 3) := dk_182 0 136 (dk_at dksX6_snow_1 8 rfl rfl)
theorem dX6_snow_35 : decode cX6_snow 35 = .ok (.ireturn, 1) := dk_172 (dk_at dksX6_snow_1 11 rfl rfl)
theorem dX6_snow_36 : decode cX6_snow 36 = .ok (.aload_n 0, 1) := dk_42 (dk_at dksX6_snow_1 12 rfl rfl)
theorem dX6_snow_37 : decode cX6_snow 37 = .ok (.invokevirtual 242, 3) := dk_182 0 242 (dk_at dksX6_snow_1 13 rfl rfl)
theorem dX6_snow_40 : decode cX6_snow 40 = .ok (.iconst 0, 1) := dk_3 (dk_at dksX6_snow_1 16 rfl rfl)
theorem dX6_snow_41 : decode cX6_snow 41 = .ok (.istore_n 3, 1) := dk_62 (dk_at dksX6_snow_1 17 rfl rfl)
theorem dX6_snow_42 : decode cX6_snow 42 = .ok (.iconst 0, 1) := dk_3 (dk_at dksX6_snow_1 18 rfl rfl)
theorem dX6_snow_43 : decode cX6_snow 43 = .ok (.istore 4, 2) := dk_54 4 (dk_at dksX6_snow_1 19 rfl rfl)
theorem dX6_snow_45 : decode cX6_snow 45 = .ok (.iload 4, 2) := dk_21 4 (dk_at dksX6_snow_1 21 rfl rfl)
theorem dX6_snow_47 : decode cX6_snow 47 = .ok (.bipush 12, 2) := dk_16 12 (dk_at dksX6_snow_2 0 rfl rfl)
theorem dX6_snow_49 : decode cX6_snow 49 = .ok (.if_icmp .ge 67, 3) := dk_162 0 67 (dk_at dksX6_snow_2 2 rfl rfl)
theorem dX6_snow_52 : decode cX6_snow 52 = .ok (.aload_n 0, 1) := dk_42 (dk_at dksX6_snow_2 5 rfl rfl)
theorem dX6_snow_53 : decode cX6_snow 53 = .ok (.getfield 13, 3) := dk_180 0 13 (dk_at dksX6_snow_2 6 rfl rfl)
theorem dX6_snow_56 : decode cX6_snow 56 = .ok (.iconst 3, 1) := dk_6 (dk_at dksX6_snow_2 9 rfl rfl)
theorem dX6_snow_57 : decode cX6_snow 57 = .ok (.iload 4, 2) := dk_21 4 (dk_at dksX6_snow_2 10 rfl rfl)
theorem dX6_snow_59 : decode cX6_snow 59 = .ok (.iadd, 1) := dk_96 (dk_at dksX6_snow_2 12 rfl rfl)
theorem dX6_snow_60 : decode cX6_snow 60 = .ok (.iaload, 1) := dk_46 (dk_at dksX6_snow_2 13 rfl rfl)
theorem dX6_snow_61 : decode cX6_snow 61 = .ok (.iconst 1, 1) := dk_4 (dk_at dksX6_snow_2 14 rfl rfl)
theorem dX6_snow_62 : decode cX6_snow 62 = .ok (.if_icmp .ne 48, 3) := dk_160 0 48 (dk_at dksX6_snow_2 15 rfl rfl)
theorem dX6_snow_65 : decode cX6_snow 65 = .ok (.aload_n 0, 1) := dk_42 (dk_at dksX6_snow_2 18 rfl rfl)
theorem dX6_snow_66 : decode cX6_snow 66 = .ok (.getfield 13, 3) := dk_180 0 13 (dk_at dksX6_snow_2 19 rfl rfl)
theorem dX6_snow_69 : decode cX6_snow 69 = .ok (.bipush 15, 2) := dk_16 15 (dk_at dksX6_snow_2 22 rfl rfl)
theorem dX6_snow_71 : decode cX6_snow 71 = .ok (.iload 4, 2) := dk_21 4 (dk_at dksX6_snow_3 0 rfl rfl)
theorem dX6_snow_73 : decode cX6_snow 73 = .ok (.iadd, 1) := dk_96 (dk_at dksX6_snow_3 2 rfl rfl)
theorem dX6_snow_74 : decode cX6_snow 74 = .ok (.iaload, 1) := dk_46 (dk_at dksX6_snow_3 3 rfl rfl)
theorem dX6_snow_75 : decode cX6_snow 75 = .ok (.i2l, 1) := dk_133 (dk_at dksX6_snow_3 4 rfl rfl)
theorem dX6_snow_76 : decode cX6_snow 76 = .ok (.iload_n 1, 1) := dk_27 (dk_at dksX6_snow_3 5 rfl rfl)
theorem dX6_snow_77 : decode cX6_snow 77 = .ok (.i2l, 1) := dk_133 (dk_at dksX6_snow_3 6 rfl rfl)
theorem dX6_snow_78 : decode cX6_snow 78 = .ok (.iload_n 2, 1) := dk_28 (dk_at dksX6_snow_3 7 rfl rfl)
theorem dX6_snow_79 : decode cX6_snow 79 = .ok (.i2l, 1) := dk_133 (dk_at dksX6_snow_3 8 rfl rfl)
theorem dX6_snow_80 : decode cX6_snow 80 = .ok (.invokestatic 61, 3) := dk_184 0 61 (dk_at dksX6_snow_3 9 rfl rfl)
theorem dX6_snow_83 : decode cX6_snow 83 = .ok (.ifCond .eq 27, 3) := dk_153 0 27 (dk_at dksX6_snow_3 12 rfl rfl)
theorem dX6_snow_86 : decode cX6_snow 86 = .ok (.iload_n 3, 1) := dk_29 (dk_at dksX6_snow_3 15 rfl rfl)
theorem dX6_snow_87 : decode cX6_snow 87 = .ok (.aload_n 0, 1) := dk_42 (dk_at dksX6_snow_3 16 rfl rfl)
theorem dX6_snow_88 : decode cX6_snow 88 = .ok (.getfield 13, 3) := dk_180 0 13 (dk_at dksX6_snow_3 17 rfl rfl)
theorem dX6_snow_91 : decode cX6_snow 91 = .ok (.bipush 27, 2) := dk_16 27 (dk_at dksX6_snow_3 20 rfl rfl)
theorem dX6_snow_93 : decode cX6_snow 93 = .ok (.iload 4, 2) := dk_21 4 (dk_at dksX6_snow_3 22 rfl rfl)
theorem dX6_snow_95 : decode cX6_snow 95 = .ok (.iadd, 1) := dk_96 (dk_at dksX6_snow_4 0 rfl rfl)
theorem dX6_snow_96 : decode cX6_snow 96 = .ok (.iaload, 1) := dk_46 (dk_at dksX6_snow_4 1 rfl rfl)
theorem dX6_snow_97 : decode cX6_snow 97 = .ok (.iadd, 1) := dk_96 (dk_at dksX6_snow_4 2 rfl rfl)
theorem dX6_snow_98 : decode cX6_snow 98 = .ok (.istore_n 3, 1) := dk_62 (dk_at dksX6_snow_4 3 rfl rfl)
theorem dX6_snow_99 : decode cX6_snow 99 = .ok (.aload_n 0, 1) := dk_42 (dk_at dksX6_snow_4 4 rfl rfl)
theorem dX6_snow_100 : decode cX6_snow 100 = .ok (.getfield 13, 3) := dk_180 0 13 (dk_at dksX6_snow_4 5 rfl rfl)
theorem dX6_snow_103 : decode cX6_snow 103 = .ok (.bipush 27, 2) := dk_16 27 (dk_at dksX6_snow_4 8 rfl rfl)
theorem dX6_snow_105 : decode cX6_snow 105 = .ok (.iload 4, 2) := dk_21 4 (dk_at dksX6_snow_4 10 rfl rfl)
theorem dX6_snow_107 : decode cX6_snow 107 = .ok (.iadd, 1) := dk_96 (dk_at dksX6_snow_4 12 rfl rfl)
theorem dX6_snow_108 : decode cX6_snow 108 = .ok (.iconst 0, 1) := dk_3 (dk_at dksX6_snow_4 13 rfl rfl)
theorem dX6_snow_109 : decode cX6_snow 109 = .ok (.iastore, 1) := dk_79 (dk_at dksX6_snow_4 14 rfl rfl)
theorem dX6_snow_110 : decode cX6_snow 110 = .ok (.iinc 4 1, 3) := dk_132 4 1 (dk_at dksX6_snow_4 15 rfl rfl)
theorem dX6_snow_113 : decode cX6_snow 113 = .ok (.goto (-68), 3) := dk_167 255 188 (dk_at dksX6_snow_4 18 rfl rfl)
theorem dX6_snow_116 : decode cX6_snow 116 = .ok (.iload_n 3, 1) := dk_29 (dk_at dksX6_snow_4 21 rfl rfl)
theorem dX6_snow_117 : decode cX6_snow 117 = .ok (.ireturn, 1) := dk_172 (dk_at dksX6_snow_4 22 rfl rfl)
abbrev cX6_thaw : ByteArray := prog_12_method_51_code
def yX6_thaw : MethodName := ⟨RX6, "thaw", "()I"⟩
def dkwX6_thaw_2 : List UInt8 := [3, 96, 60, 42, 180, 0, 13, 16, 27, 28, 96, 4, 79, 132, 2, 1, 167, 255, 205, 27, 172]
abbrev dktX6_thaw_2 : List UInt8 := dkwX6_thaw_2 ++ []
def dkwX6_thaw_1 : List UInt8 := [6, 28, 96, 46, 4, 160, 0, 19, 42, 180, 0, 13, 16, 27, 28, 96, 46, 154, 0, 7, 4, 167, 0, 4]
abbrev dktX6_thaw_1 : List UInt8 := dkwX6_thaw_1 ++ dktX6_thaw_2
def dkwX6_thaw_0 : List UInt8 := [42, 3, 181, 0, 3, 42, 182, 0, 242, 3, 60, 3, 61, 28, 16, 12, 162, 0, 51, 27, 42, 180, 0, 13]
abbrev dktX6_thaw_0 : List UInt8 := dkwX6_thaw_0 ++ dktX6_thaw_1
theorem dksX6_thaw_0 : cX6_thaw.data.toList.drop 0 = dktX6_thaw_0 := by decide +kernel
theorem dksX6_thaw_1 : cX6_thaw.data.toList.drop 24 = dktX6_thaw_1 := dk_seg dksX6_thaw_0 24 rfl rfl
theorem dksX6_thaw_2 : cX6_thaw.data.toList.drop 48 = dktX6_thaw_2 := dk_seg dksX6_thaw_1 24 rfl rfl
theorem dX6_thaw_0 : decode cX6_thaw 0 = .ok (.aload_n 0, 1) := dk_42 (dk_at dksX6_thaw_0 0 rfl rfl)
theorem dX6_thaw_1 : decode cX6_thaw 1 = .ok (.iconst 0, 1) := dk_3 (dk_at dksX6_thaw_0 1 rfl rfl)
theorem dX6_thaw_2 : decode cX6_thaw 2 = .ok (.putfield 3, 3) := dk_181 0 3 (dk_at dksX6_thaw_0 2 rfl rfl)
theorem dX6_thaw_5 : decode cX6_thaw 5 = .ok (.aload_n 0, 1) := dk_42 (dk_at dksX6_thaw_0 5 rfl rfl)
theorem dX6_thaw_6 : decode cX6_thaw 6 = .ok (.invokevirtual 242, 3) := dk_182 0 242 (dk_at dksX6_thaw_0 6 rfl rfl)
theorem dX6_thaw_9 : decode cX6_thaw 9 = .ok (.iconst 0, 1) := dk_3 (dk_at dksX6_thaw_0 9 rfl rfl)
theorem dX6_thaw_10 : decode cX6_thaw 10 = .ok (.istore_n 1, 1) := dk_60 (dk_at dksX6_thaw_0 10 rfl rfl)
theorem dX6_thaw_11 : decode cX6_thaw 11 = .ok (.iconst 0, 1) := dk_3 (dk_at dksX6_thaw_0 11 rfl rfl)
theorem dX6_thaw_12 : decode cX6_thaw 12 = .ok (.istore_n 2, 1) := dk_61 (dk_at dksX6_thaw_0 12 rfl rfl)
theorem dX6_thaw_13 : decode cX6_thaw 13 = .ok (.iload_n 2, 1) := dk_28 (dk_at dksX6_thaw_0 13 rfl rfl)
theorem dX6_thaw_14 : decode cX6_thaw 14 = .ok (.bipush 12, 2) := dk_16 12 (dk_at dksX6_thaw_0 14 rfl rfl)
theorem dX6_thaw_16 : decode cX6_thaw 16 = .ok (.if_icmp .ge 51, 3) := dk_162 0 51 (dk_at dksX6_thaw_0 16 rfl rfl)
theorem dX6_thaw_19 : decode cX6_thaw 19 = .ok (.iload_n 1, 1) := dk_27 (dk_at dksX6_thaw_0 19 rfl rfl)
theorem dX6_thaw_20 : decode cX6_thaw 20 = .ok (.aload_n 0, 1) := dk_42 (dk_at dksX6_thaw_0 20 rfl rfl)
theorem dX6_thaw_21 : decode cX6_thaw 21 = .ok (.getfield 13, 3) := dk_180 0 13 (dk_at dksX6_thaw_0 21 rfl rfl)
theorem dX6_thaw_24 : decode cX6_thaw 24 = .ok (.iconst 3, 1) := dk_6 (dk_at dksX6_thaw_1 0 rfl rfl)
theorem dX6_thaw_25 : decode cX6_thaw 25 = .ok (.iload_n 2, 1) := dk_28 (dk_at dksX6_thaw_1 1 rfl rfl)
theorem dX6_thaw_26 : decode cX6_thaw 26 = .ok (.iadd, 1) := dk_96 (dk_at dksX6_thaw_1 2 rfl rfl)
theorem dX6_thaw_27 : decode cX6_thaw 27 = .ok (.iaload, 1) := dk_46 (dk_at dksX6_thaw_1 3 rfl rfl)
theorem dX6_thaw_28 : decode cX6_thaw 28 = .ok (.iconst 1, 1) := dk_4 (dk_at dksX6_thaw_1 4 rfl rfl)
theorem dX6_thaw_29 : decode cX6_thaw 29 = .ok (.if_icmp .ne 19, 3) := dk_160 0 19 (dk_at dksX6_thaw_1 5 rfl rfl)
theorem dX6_thaw_32 : decode cX6_thaw 32 = .ok (.aload_n 0, 1) := dk_42 (dk_at dksX6_thaw_1 8 rfl rfl)
theorem dX6_thaw_33 : decode cX6_thaw 33 = .ok (.getfield 13, 3) := dk_180 0 13 (dk_at dksX6_thaw_1 9 rfl rfl)
theorem dX6_thaw_36 : decode cX6_thaw 36 = .ok (.bipush 27, 2) := dk_16 27 (dk_at dksX6_thaw_1 12 rfl rfl)
theorem dX6_thaw_38 : decode cX6_thaw 38 = .ok (.iload_n 2, 1) := dk_28 (dk_at dksX6_thaw_1 14 rfl rfl)
theorem dX6_thaw_39 : decode cX6_thaw 39 = .ok (.iadd, 1) := dk_96 (dk_at dksX6_thaw_1 15 rfl rfl)
theorem dX6_thaw_40 : decode cX6_thaw 40 = .ok (.iaload, 1) := dk_46 (dk_at dksX6_thaw_1 16 rfl rfl)
theorem dX6_thaw_41 : decode cX6_thaw 41 = .ok (.ifCond .ne 7, 3) := dk_154 0 7 (dk_at dksX6_thaw_1 17 rfl rfl)
theorem dX6_thaw_44 : decode cX6_thaw 44 = .ok (.iconst 1, 1) := dk_4 (dk_at dksX6_thaw_1 20 rfl rfl)
theorem dX6_thaw_45 : decode cX6_thaw 45 = .ok (.goto 4, 3) := dk_167 0 4 (dk_at dksX6_thaw_1 21 rfl rfl)
theorem dX6_thaw_48 : decode cX6_thaw 48 = .ok (.iconst 0, 1) := dk_3 (dk_at dksX6_thaw_2 0 rfl rfl)
theorem dX6_thaw_49 : decode cX6_thaw 49 = .ok (.iadd, 1) := dk_96 (dk_at dksX6_thaw_2 1 rfl rfl)
theorem dX6_thaw_50 : decode cX6_thaw 50 = .ok (.istore_n 1, 1) := dk_60 (dk_at dksX6_thaw_2 2 rfl rfl)
theorem dX6_thaw_51 : decode cX6_thaw 51 = .ok (.aload_n 0, 1) := dk_42 (dk_at dksX6_thaw_2 3 rfl rfl)
theorem dX6_thaw_52 : decode cX6_thaw 52 = .ok (.getfield 13, 3) := dk_180 0 13 (dk_at dksX6_thaw_2 4 rfl rfl)
theorem dX6_thaw_55 : decode cX6_thaw 55 = .ok (.bipush 27, 2) := dk_16 27 (dk_at dksX6_thaw_2 7 rfl rfl)
theorem dX6_thaw_57 : decode cX6_thaw 57 = .ok (.iload_n 2, 1) := dk_28 (dk_at dksX6_thaw_2 9 rfl rfl)
theorem dX6_thaw_58 : decode cX6_thaw 58 = .ok (.iadd, 1) := dk_96 (dk_at dksX6_thaw_2 10 rfl rfl)
theorem dX6_thaw_59 : decode cX6_thaw 59 = .ok (.iconst 1, 1) := dk_4 (dk_at dksX6_thaw_2 11 rfl rfl)
theorem dX6_thaw_60 : decode cX6_thaw 60 = .ok (.iastore, 1) := dk_79 (dk_at dksX6_thaw_2 12 rfl rfl)
theorem dX6_thaw_61 : decode cX6_thaw 61 = .ok (.iinc 2 1, 3) := dk_132 2 1 (dk_at dksX6_thaw_2 13 rfl rfl)
theorem dX6_thaw_64 : decode cX6_thaw 64 = .ok (.goto (-51), 3) := dk_167 255 205 (dk_at dksX6_thaw_2 16 rfl rfl)
theorem dX6_thaw_67 : decode cX6_thaw 67 = .ok (.iload_n 1, 1) := dk_27 (dk_at dksX6_thaw_2 19 rfl rfl)
theorem dX6_thaw_68 : decode cX6_thaw 68 = .ok (.ireturn, 1) := dk_172 (dk_at dksX6_thaw_2 20 rfl rfl)
abbrev cX6_setRange : ByteArray := prog_12_method_52_code
def yX6_setRange : MethodName := ⟨RX6, "setRange", "(I)I"⟩
def dkwX6_setRange_1 : List UInt8 := [182, 0, 242, 42, 180, 0, 13, 3, 46, 61, 42, 180, 0, 13, 3, 27, 79, 28, 172]
abbrev dktX6_setRange_1 : List UInt8 := dkwX6_setRange_1 ++ []
def dkwX6_setRange_0 : List UInt8 := [42, 3, 181, 0, 3, 27, 133, 10, 20, 0, 245, 184, 0, 61, 154, 0, 9, 42, 4, 182, 0, 136, 172, 42]
abbrev dktX6_setRange_0 : List UInt8 := dkwX6_setRange_0 ++ dktX6_setRange_1
theorem dksX6_setRange_0 : cX6_setRange.data.toList.drop 0 = dktX6_setRange_0 := by decide +kernel
theorem dksX6_setRange_1 : cX6_setRange.data.toList.drop 24 = dktX6_setRange_1 := dk_seg dksX6_setRange_0 24 rfl rfl
theorem dX6_setRange_0 : decode cX6_setRange 0 = .ok (.aload_n 0, 1) := dk_42 (dk_at dksX6_setRange_0 0 rfl rfl)
theorem dX6_setRange_1 : decode cX6_setRange 1 = .ok (.iconst 0, 1) := dk_3 (dk_at dksX6_setRange_0 1 rfl rfl)
theorem dX6_setRange_2 : decode cX6_setRange 2 = .ok (.putfield 3, 3) := dk_181 0 3 (dk_at dksX6_setRange_0 2 rfl rfl)
theorem dX6_setRange_5 : decode cX6_setRange 5 = .ok (.iload_n 1, 1) := dk_27 (dk_at dksX6_setRange_0 5 rfl rfl)
theorem dX6_setRange_6 : decode cX6_setRange 6 = .ok (.i2l, 1) := dk_133 (dk_at dksX6_setRange_0 6 rfl rfl)
theorem dX6_setRange_7 : decode cX6_setRange 7 = .ok (.lconst 1, 1) := dk_10 (dk_at dksX6_setRange_0 7 rfl rfl)
theorem dX6_setRange_8 : decode cX6_setRange 8 = .ok (.ldc2_w 245, 3) := dk_20 0 245 (dk_at dksX6_setRange_0 8 rfl rfl)
theorem dX6_setRange_11 : decode cX6_setRange 11 = .ok (.invokestatic 61, 3) := dk_184 0 61 (dk_at dksX6_setRange_0 11 rfl rfl)
theorem dX6_setRange_14 : decode cX6_setRange 14 = .ok (.ifCond .ne 9, 3) := dk_154 0 9 (dk_at dksX6_setRange_0 14 rfl rfl)
theorem dX6_setRange_17 : decode cX6_setRange 17 = .ok (.aload_n 0, 1) := dk_42 (dk_at dksX6_setRange_0 17 rfl rfl)
theorem dX6_setRange_18 : decode cX6_setRange 18 = .ok (.iconst 1, 1) := dk_4 (dk_at dksX6_setRange_0 18 rfl rfl)
theorem dX6_setRange_19 : decode cX6_setRange 19 = .ok (.invokevirtual 136, 3) := dk_182 0 136 (dk_at dksX6_setRange_0 19 rfl rfl)
theorem dX6_setRange_22 : decode cX6_setRange 22 = .ok (.ireturn, 1) := dk_172 (dk_at dksX6_setRange_0 22 rfl rfl)
theorem dX6_setRange_23 : decode cX6_setRange 23 = .ok (.aload_n 0, 1) := dk_42 (dk_at dksX6_setRange_0 23 rfl rfl)
theorem dX6_setRange_24 : decode cX6_setRange 24 = .ok (.invokevirtual 242, 3) := dk_182 0 242 (dk_at dksX6_setRange_1 0 rfl rfl)
theorem dX6_setRange_27 : decode cX6_setRange 27 = .ok (.aload_n 0, 1) := dk_42 (dk_at dksX6_setRange_1 3 rfl rfl)
theorem dX6_setRange_28 : decode cX6_setRange 28 = .ok (.getfield 13, 3) := dk_180 0 13 (dk_at dksX6_setRange_1 4 rfl rfl)
theorem dX6_setRange_31 : decode cX6_setRange 31 = .ok (.iconst 0, 1) := dk_3 (dk_at dksX6_setRange_1 7 rfl rfl)
theorem dX6_setRange_32 : decode cX6_setRange 32 = .ok (.iaload, 1) := dk_46 (dk_at dksX6_setRange_1 8 rfl rfl)
theorem dX6_setRange_33 : decode cX6_setRange 33 = .ok (.istore_n 2, 1) := dk_61 (dk_at dksX6_setRange_1 9 rfl rfl)
theorem dX6_setRange_34 : decode cX6_setRange 34 = .ok (.aload_n 0, 1) := dk_42 (dk_at dksX6_setRange_1 10 rfl rfl)
theorem dX6_setRange_35 : decode cX6_setRange 35 = .ok (.getfield 13, 3) := dk_180 0 13 (dk_at dksX6_setRange_1 11 rfl rfl)
theorem dX6_setRange_38 : decode cX6_setRange 38 = .ok (.iconst 0, 1) := dk_3 (dk_at dksX6_setRange_1 14 rfl rfl)
theorem dX6_setRange_39 : decode cX6_setRange 39 = .ok (.iload_n 1, 1) := dk_27 (dk_at dksX6_setRange_1 15 rfl rfl)
theorem dX6_setRange_40 : decode cX6_setRange 40 = .ok (.iastore, 1) := dk_79 (dk_at dksX6_setRange_1 16 rfl rfl)
theorem dX6_setRange_41 : decode cX6_setRange 41 = .ok (.iload_n 2, 1) := dk_28 (dk_at dksX6_setRange_1 17 rfl rfl)
theorem dX6_setRange_42 : decode cX6_setRange 42 = .ok (.ireturn, 1) := dk_172 (dk_at dksX6_setRange_1 18 rfl rfl)
abbrev cX6_setNext : ByteArray := prog_12_method_54_code
def yX6_setNext : MethodName := ⟨RX6, "setNext", "(II)I"⟩
def dkwX6_setNext_1 : List UInt8 := [184, 0, 250, 153, 0, 15, 42, 16, 54, 27, 96, 28, 182, 0, 253, 167, 0, 8, 42, 5, 182, 0, 136, 172]
abbrev dktX6_setNext_1 : List UInt8 := dkwX6_setNext_1 ++ []
def dkwX6_setNext_0 : List UInt8 := [42, 3, 181, 0, 3, 42, 180, 0, 13, 27, 184, 0, 85, 154, 0, 9, 42, 4, 182, 0, 136, 172, 28]
abbrev dktX6_setNext_0 : List UInt8 := dkwX6_setNext_0 ++ dktX6_setNext_1
theorem dksX6_setNext_0 : cX6_setNext.data.toList.drop 0 = dktX6_setNext_0 := by decide +kernel
theorem dksX6_setNext_1 : cX6_setNext.data.toList.drop 23 = dktX6_setNext_1 := dk_seg dksX6_setNext_0 23 rfl rfl
theorem dX6_setNext_0 : decode cX6_setNext 0 = .ok (.aload_n 0, 1) := dk_42 (dk_at dksX6_setNext_0 0 rfl rfl)
theorem dX6_setNext_1 : decode cX6_setNext 1 = .ok (.iconst 0, 1) := dk_3 (dk_at dksX6_setNext_0 1 rfl rfl)
theorem dX6_setNext_2 : decode cX6_setNext 2 = .ok (.putfield 3, 3) := dk_181 0 3 (dk_at dksX6_setNext_0 2 rfl rfl)
theorem dX6_setNext_5 : decode cX6_setNext 5 = .ok (.aload_n 0, 1) := dk_42 (dk_at dksX6_setNext_0 5 rfl rfl)
theorem dX6_setNext_6 : decode cX6_setNext 6 = .ok (.getfield 13, 3) := dk_180 0 13 (dk_at dksX6_setNext_0 6 rfl rfl)
theorem dX6_setNext_9 : decode cX6_setNext 9 = .ok (.iload_n 1, 1) := dk_27 (dk_at dksX6_setNext_0 9 rfl rfl)
theorem dX6_setNext_10 : decode cX6_setNext 10 = .ok (.invokestatic 85, 3) := dk_184 0 85 (dk_at dksX6_setNext_0 10 rfl rfl)
theorem dX6_setNext_13 : decode cX6_setNext 13 = .ok (.ifCond .ne 9, 3) := dk_154 0 9 (dk_at dksX6_setNext_0 13 rfl rfl)
theorem dX6_setNext_16 : decode cX6_setNext 16 = .ok (.aload_n 0, 1) := dk_42 (dk_at dksX6_setNext_0 16 rfl rfl)
theorem dX6_setNext_17 : decode cX6_setNext 17 = .ok (.iconst 1, 1) := dk_4 (dk_at dksX6_setNext_0 17 rfl rfl)
theorem dX6_setNext_18 : decode cX6_setNext 18 = .ok (.invokevirtual 136, 3) := dk_182 0 136 (dk_at dksX6_setNext_0 18 rfl rfl)
theorem dX6_setNext_21 : decode cX6_setNext 21 = .ok (.ireturn, 1) := dk_172 (dk_at dksX6_setNext_0 21 rfl rfl)
theorem dX6_setNext_22 : decode cX6_setNext 22 = .ok (.iload_n 2, 1) := dk_28 (dk_at dksX6_setNext_0 22 rfl rfl)
theorem dX6_setNext_23 : decode cX6_setNext 23 = .ok (.invokestatic 250, 3) := dk_184 0 250 (dk_at dksX6_setNext_1 0 rfl rfl)
theorem dX6_setNext_26 : decode cX6_setNext 26 = .ok (.ifCond .eq 15, 3) := dk_153 0 15 (dk_at dksX6_setNext_1 3 rfl rfl)
theorem dX6_setNext_29 : decode cX6_setNext 29 = .ok (.aload_n 0, 1) := dk_42 (dk_at dksX6_setNext_1 6 rfl rfl)
theorem dX6_setNext_30 : decode cX6_setNext 30 = .ok (.bipush 54, 2) := dk_16 54 (dk_at dksX6_setNext_1 7 rfl rfl)
theorem dX6_setNext_32 : decode cX6_setNext 32 = .ok (.iload_n 1, 1) := dk_27 (dk_at dksX6_setNext_1 9 rfl rfl)
theorem dX6_setNext_33 : decode cX6_setNext 33 = .ok (.iadd, 1) := dk_96 (dk_at dksX6_setNext_1 10 rfl rfl)
theorem dX6_setNext_34 : decode cX6_setNext 34 = .ok (.iload_n 2, 1) := dk_28 (dk_at dksX6_setNext_1 11 rfl rfl)
theorem dX6_setNext_35 : decode cX6_setNext 35 = .ok (.invokevirtual 253, 3) := dk_182 0 253 (dk_at dksX6_setNext_1 12 rfl rfl)
theorem dX6_setNext_38 : decode cX6_setNext 38 = .ok (.goto 8, 3) := dk_167 0 8 (dk_at dksX6_setNext_1 15 rfl rfl)
theorem dX6_setNext_41 : decode cX6_setNext 41 = .ok (.aload_n 0, 1) := dk_42 (dk_at dksX6_setNext_1 18 rfl rfl)
theorem dX6_setNext_42 : decode cX6_setNext 42 = .ok (.iconst 2, 1) := dk_5 (dk_at dksX6_setNext_1 19 rfl rfl)
theorem dX6_setNext_43 : decode cX6_setNext 43 = .ok (.invokevirtual 136, 3) := dk_182 0 136 (dk_at dksX6_setNext_1 20 rfl rfl)
theorem dX6_setNext_46 : decode cX6_setNext 46 = .ok (.ireturn, 1) := dk_172 (dk_at dksX6_setNext_1 23 rfl rfl)
abbrev cX6_isPointer : ByteArray := prog_12_method_9_code
def yX6_isPointer : MethodName := ⟨RX6, "isPointer", "(I)Z"⟩
def dkwX6_isPointer_0 : List UInt8 := [26, 133, 20, 0, 65, 20, 0, 59, 184, 0, 61, 172]
abbrev dktX6_isPointer_0 : List UInt8 := dkwX6_isPointer_0 ++ []
theorem dksX6_isPointer_0 : cX6_isPointer.data.toList.drop 0 = dktX6_isPointer_0 := by decide +kernel
theorem dX6_isPointer_0 : decode cX6_isPointer 0 = .ok (.iload_n 0, 1) := dk_26 (dk_at dksX6_isPointer_0 0 rfl rfl)
theorem dX6_isPointer_1 : decode cX6_isPointer 1 = .ok (.i2l, 1) := dk_133 (dk_at dksX6_isPointer_0 1 rfl rfl)
theorem dX6_isPointer_2 : decode cX6_isPointer 2 = .ok (.ldc2_w 65, 3) := dk_20 0 65 (dk_at dksX6_isPointer_0 2 rfl rfl)
theorem dX6_isPointer_5 : decode cX6_isPointer 5 = .ok (.ldc2_w 59, 3) := dk_20 0 59 (dk_at dksX6_isPointer_0 5 rfl rfl)
theorem dX6_isPointer_8 : decode cX6_isPointer 8 = .ok (.invokestatic 61, 3) := dk_184 0 61 (dk_at dksX6_isPointer_0 8 rfl rfl)
theorem dX6_isPointer_11 : decode cX6_isPointer 11 = .ok (.ireturn, 1) := dk_172 (dk_at dksX6_isPointer_0 11 rfl rfl)
abbrev cX6_overwrites : ByteArray := prog_12_method_53_code
def yX6_overwrites : MethodName := ⟨RX6, "overwrites", "(II)I"⟩
def dkwX6_overwrites_0 : List UInt8 := [42, 182, 0, 242, 42, 180, 0, 13, 27, 46, 62, 42, 180, 0, 13, 27, 28, 79, 29, 172]
abbrev dktX6_overwrites_0 : List UInt8 := dkwX6_overwrites_0 ++ []
theorem dksX6_overwrites_0 : cX6_overwrites.data.toList.drop 0 = dktX6_overwrites_0 := by decide +kernel
theorem dX6_overwrites_0 : decode cX6_overwrites 0 = .ok (.aload_n 0, 1) := dk_42 (dk_at dksX6_overwrites_0 0 rfl rfl)
theorem dX6_overwrites_1 : decode cX6_overwrites 1 = .ok (.invokevirtual 242, 3) := dk_182 0 242 (dk_at dksX6_overwrites_0 1 rfl rfl)
theorem dX6_overwrites_4 : decode cX6_overwrites 4 = .ok (.aload_n 0, 1) := dk_42 (dk_at dksX6_overwrites_0 4 rfl rfl)
theorem dX6_overwrites_5 : decode cX6_overwrites 5 = .ok (.getfield 13, 3) := dk_180 0 13 (dk_at dksX6_overwrites_0 5 rfl rfl)
theorem dX6_overwrites_8 : decode cX6_overwrites 8 = .ok (.iload_n 1, 1) := dk_27 (dk_at dksX6_overwrites_0 8 rfl rfl)
theorem dX6_overwrites_9 : decode cX6_overwrites 9 = .ok (.iaload, 1) := dk_46 (dk_at dksX6_overwrites_0 9 rfl rfl)
theorem dX6_overwrites_10 : decode cX6_overwrites 10 = .ok (.istore_n 3, 1) := dk_62 (dk_at dksX6_overwrites_0 10 rfl rfl)
theorem dX6_overwrites_11 : decode cX6_overwrites 11 = .ok (.aload_n 0, 1) := dk_42 (dk_at dksX6_overwrites_0 11 rfl rfl)
theorem dX6_overwrites_12 : decode cX6_overwrites 12 = .ok (.getfield 13, 3) := dk_180 0 13 (dk_at dksX6_overwrites_0 12 rfl rfl)
theorem dX6_overwrites_15 : decode cX6_overwrites 15 = .ok (.iload_n 1, 1) := dk_27 (dk_at dksX6_overwrites_0 15 rfl rfl)
theorem dX6_overwrites_16 : decode cX6_overwrites 16 = .ok (.iload_n 2, 1) := dk_28 (dk_at dksX6_overwrites_0 16 rfl rfl)
theorem dX6_overwrites_17 : decode cX6_overwrites 17 = .ok (.iastore, 1) := dk_79 (dk_at dksX6_overwrites_0 17 rfl rfl)
theorem dX6_overwrites_18 : decode cX6_overwrites 18 = .ok (.iload_n 3, 1) := dk_29 (dk_at dksX6_overwrites_0 18 rfl rfl)
theorem dX6_overwrites_19 : decode cX6_overwrites 19 = .ok (.ireturn, 1) := dk_172 (dk_at dksX6_overwrites_0 19 rfl rfl)
abbrev cX6_setSkip : ByteArray := prog_12_method_55_code
def yX6_setSkip : MethodName := ⟨RX6, "setSkip", "(II)I"⟩
def dkwX6_setSkip_1 : List UInt8 := [184, 0, 250, 153, 0, 15, 42, 16, 66, 27, 96, 28, 182, 0, 253, 167, 0, 8, 42, 5, 182, 0, 136, 172]
abbrev dktX6_setSkip_1 : List UInt8 := dkwX6_setSkip_1 ++ []
def dkwX6_setSkip_0 : List UInt8 := [42, 3, 181, 0, 3, 42, 180, 0, 13, 27, 184, 0, 85, 154, 0, 9, 42, 4, 182, 0, 136, 172, 28]
abbrev dktX6_setSkip_0 : List UInt8 := dkwX6_setSkip_0 ++ dktX6_setSkip_1
theorem dksX6_setSkip_0 : cX6_setSkip.data.toList.drop 0 = dktX6_setSkip_0 := by decide +kernel
theorem dksX6_setSkip_1 : cX6_setSkip.data.toList.drop 23 = dktX6_setSkip_1 := dk_seg dksX6_setSkip_0 23 rfl rfl
theorem dX6_setSkip_0 : decode cX6_setSkip 0 = .ok (.aload_n 0, 1) := dk_42 (dk_at dksX6_setSkip_0 0 rfl rfl)
theorem dX6_setSkip_1 : decode cX6_setSkip 1 = .ok (.iconst 0, 1) := dk_3 (dk_at dksX6_setSkip_0 1 rfl rfl)
theorem dX6_setSkip_2 : decode cX6_setSkip 2 = .ok (.putfield 3, 3) := dk_181 0 3 (dk_at dksX6_setSkip_0 2 rfl rfl)
theorem dX6_setSkip_5 : decode cX6_setSkip 5 = .ok (.aload_n 0, 1) := dk_42 (dk_at dksX6_setSkip_0 5 rfl rfl)
theorem dX6_setSkip_6 : decode cX6_setSkip 6 = .ok (.getfield 13, 3) := dk_180 0 13 (dk_at dksX6_setSkip_0 6 rfl rfl)
theorem dX6_setSkip_9 : decode cX6_setSkip 9 = .ok (.iload_n 1, 1) := dk_27 (dk_at dksX6_setSkip_0 9 rfl rfl)
theorem dX6_setSkip_10 : decode cX6_setSkip 10 = .ok (.invokestatic 85, 3) := dk_184 0 85 (dk_at dksX6_setSkip_0 10 rfl rfl)
theorem dX6_setSkip_13 : decode cX6_setSkip 13 = .ok (.ifCond .ne 9, 3) := dk_154 0 9 (dk_at dksX6_setSkip_0 13 rfl rfl)
theorem dX6_setSkip_16 : decode cX6_setSkip 16 = .ok (.aload_n 0, 1) := dk_42 (dk_at dksX6_setSkip_0 16 rfl rfl)
theorem dX6_setSkip_17 : decode cX6_setSkip 17 = .ok (.iconst 1, 1) := dk_4 (dk_at dksX6_setSkip_0 17 rfl rfl)
theorem dX6_setSkip_18 : decode cX6_setSkip 18 = .ok (.invokevirtual 136, 3) := dk_182 0 136 (dk_at dksX6_setSkip_0 18 rfl rfl)
theorem dX6_setSkip_21 : decode cX6_setSkip 21 = .ok (.ireturn, 1) := dk_172 (dk_at dksX6_setSkip_0 21 rfl rfl)
theorem dX6_setSkip_22 : decode cX6_setSkip 22 = .ok (.iload_n 2, 1) := dk_28 (dk_at dksX6_setSkip_0 22 rfl rfl)
theorem dX6_setSkip_23 : decode cX6_setSkip 23 = .ok (.invokestatic 250, 3) := dk_184 0 250 (dk_at dksX6_setSkip_1 0 rfl rfl)
theorem dX6_setSkip_26 : decode cX6_setSkip 26 = .ok (.ifCond .eq 15, 3) := dk_153 0 15 (dk_at dksX6_setSkip_1 3 rfl rfl)
theorem dX6_setSkip_29 : decode cX6_setSkip 29 = .ok (.aload_n 0, 1) := dk_42 (dk_at dksX6_setSkip_1 6 rfl rfl)
theorem dX6_setSkip_30 : decode cX6_setSkip 30 = .ok (.bipush 66, 2) := dk_16 66 (dk_at dksX6_setSkip_1 7 rfl rfl)
theorem dX6_setSkip_32 : decode cX6_setSkip 32 = .ok (.iload_n 1, 1) := dk_27 (dk_at dksX6_setSkip_1 9 rfl rfl)
theorem dX6_setSkip_33 : decode cX6_setSkip 33 = .ok (.iadd, 1) := dk_96 (dk_at dksX6_setSkip_1 10 rfl rfl)
theorem dX6_setSkip_34 : decode cX6_setSkip 34 = .ok (.iload_n 2, 1) := dk_28 (dk_at dksX6_setSkip_1 11 rfl rfl)
theorem dX6_setSkip_35 : decode cX6_setSkip 35 = .ok (.invokevirtual 253, 3) := dk_182 0 253 (dk_at dksX6_setSkip_1 12 rfl rfl)
theorem dX6_setSkip_38 : decode cX6_setSkip 38 = .ok (.goto 8, 3) := dk_167 0 8 (dk_at dksX6_setSkip_1 15 rfl rfl)
theorem dX6_setSkip_41 : decode cX6_setSkip 41 = .ok (.aload_n 0, 1) := dk_42 (dk_at dksX6_setSkip_1 18 rfl rfl)
theorem dX6_setSkip_42 : decode cX6_setSkip 42 = .ok (.iconst 2, 1) := dk_5 (dk_at dksX6_setSkip_1 19 rfl rfl)
theorem dX6_setSkip_43 : decode cX6_setSkip 43 = .ok (.invokevirtual 136, 3) := dk_182 0 136 (dk_at dksX6_setSkip_1 20 rfl rfl)
theorem dX6_setSkip_46 : decode cX6_setSkip 46 = .ok (.ireturn, 1) := dk_172 (dk_at dksX6_setSkip_1 23 rfl rfl)
abbrev cX6_setFirst : ByteArray := prog_12_method_56_code
def yX6_setFirst : MethodName := ⟨RX6, "setFirst", "(I)I"⟩
def dkwX6_setFirst_1 : List UInt8 := [182, 0, 136, 172]
abbrev dktX6_setFirst_1 : List UInt8 := dkwX6_setFirst_1 ++ []
def dkwX6_setFirst_0 : List UInt8 := [42, 3, 181, 0, 3, 27, 184, 0, 250, 153, 0, 13, 42, 16, 51, 27, 182, 0, 253, 167, 0, 8, 42, 4]
abbrev dktX6_setFirst_0 : List UInt8 := dkwX6_setFirst_0 ++ dktX6_setFirst_1
theorem dksX6_setFirst_0 : cX6_setFirst.data.toList.drop 0 = dktX6_setFirst_0 := by decide +kernel
theorem dksX6_setFirst_1 : cX6_setFirst.data.toList.drop 24 = dktX6_setFirst_1 := dk_seg dksX6_setFirst_0 24 rfl rfl
theorem dX6_setFirst_0 : decode cX6_setFirst 0 = .ok (.aload_n 0, 1) := dk_42 (dk_at dksX6_setFirst_0 0 rfl rfl)
theorem dX6_setFirst_1 : decode cX6_setFirst 1 = .ok (.iconst 0, 1) := dk_3 (dk_at dksX6_setFirst_0 1 rfl rfl)
theorem dX6_setFirst_2 : decode cX6_setFirst 2 = .ok (.putfield 3, 3) := dk_181 0 3 (dk_at dksX6_setFirst_0 2 rfl rfl)
theorem dX6_setFirst_5 : decode cX6_setFirst 5 = .ok (.iload_n 1, 1) := dk_27 (dk_at dksX6_setFirst_0 5 rfl rfl)
theorem dX6_setFirst_6 : decode cX6_setFirst 6 = .ok (.invokestatic 250, 3) := dk_184 0 250 (dk_at dksX6_setFirst_0 6 rfl rfl)
theorem dX6_setFirst_9 : decode cX6_setFirst 9 = .ok (.ifCond .eq 13, 3) := dk_153 0 13 (dk_at dksX6_setFirst_0 9 rfl rfl)
theorem dX6_setFirst_12 : decode cX6_setFirst 12 = .ok (.aload_n 0, 1) := dk_42 (dk_at dksX6_setFirst_0 12 rfl rfl)
theorem dX6_setFirst_13 : decode cX6_setFirst 13 = .ok (.bipush 51, 2) := dk_16 51 (dk_at dksX6_setFirst_0 13 rfl rfl)
theorem dX6_setFirst_15 : decode cX6_setFirst 15 = .ok (.iload_n 1, 1) := dk_27 (dk_at dksX6_setFirst_0 15 rfl rfl)
theorem dX6_setFirst_16 : decode cX6_setFirst 16 = .ok (.invokevirtual 253, 3) := dk_182 0 253 (dk_at dksX6_setFirst_0 16 rfl rfl)
theorem dX6_setFirst_19 : decode cX6_setFirst 19 = .ok (.goto 8, 3) := dk_167 0 8 (dk_at dksX6_setFirst_0 19 rfl rfl)
theorem dX6_setFirst_22 : decode cX6_setFirst 22 = .ok (.aload_n 0, 1) := dk_42 (dk_at dksX6_setFirst_0 22 rfl rfl)
theorem dX6_setFirst_23 : decode cX6_setFirst 23 = .ok (.iconst 1, 1) := dk_4 (dk_at dksX6_setFirst_0 23 rfl rfl)
theorem dX6_setFirst_24 : decode cX6_setFirst 24 = .ok (.invokevirtual 136, 3) := dk_182 0 136 (dk_at dksX6_setFirst_1 0 rfl rfl)
theorem dX6_setFirst_27 : decode cX6_setFirst 27 = .ok (.ireturn, 1) := dk_172 (dk_at dksX6_setFirst_1 3 rfl rfl)
abbrev cX6_setSecond : ByteArray := prog_12_method_57_code
def yX6_setSecond : MethodName := ⟨RX6, "setSecond", "(I)I"⟩
def dkwX6_setSecond_1 : List UInt8 := [182, 0, 136, 172]
abbrev dktX6_setSecond_1 : List UInt8 := dkwX6_setSecond_1 ++ []
def dkwX6_setSecond_0 : List UInt8 := [42, 3, 181, 0, 3, 27, 184, 0, 250, 153, 0, 13, 42, 16, 52, 27, 182, 0, 253, 167, 0, 8, 42, 4]
abbrev dktX6_setSecond_0 : List UInt8 := dkwX6_setSecond_0 ++ dktX6_setSecond_1
theorem dksX6_setSecond_0 : cX6_setSecond.data.toList.drop 0 = dktX6_setSecond_0 := by decide +kernel
theorem dksX6_setSecond_1 : cX6_setSecond.data.toList.drop 24 = dktX6_setSecond_1 := dk_seg dksX6_setSecond_0 24 rfl rfl
theorem dX6_setSecond_0 : decode cX6_setSecond 0 = .ok (.aload_n 0, 1) := dk_42 (dk_at dksX6_setSecond_0 0 rfl rfl)
theorem dX6_setSecond_1 : decode cX6_setSecond 1 = .ok (.iconst 0, 1) := dk_3 (dk_at dksX6_setSecond_0 1 rfl rfl)
theorem dX6_setSecond_2 : decode cX6_setSecond 2 = .ok (.putfield 3, 3) := dk_181 0 3 (dk_at dksX6_setSecond_0 2 rfl rfl)
theorem dX6_setSecond_5 : decode cX6_setSecond 5 = .ok (.iload_n 1, 1) := dk_27 (dk_at dksX6_setSecond_0 5 rfl rfl)
theorem dX6_setSecond_6 : decode cX6_setSecond 6 = .ok (.invokestatic 250, 3) := dk_184 0 250 (dk_at dksX6_setSecond_0 6 rfl rfl)
theorem dX6_setSecond_9 : decode cX6_setSecond 9 = .ok (.ifCond .eq 13, 3) := dk_153 0 13 (dk_at dksX6_setSecond_0 9 rfl rfl)
theorem dX6_setSecond_12 : decode cX6_setSecond 12 = .ok (.aload_n 0, 1) := dk_42 (dk_at dksX6_setSecond_0 12 rfl rfl)
theorem dX6_setSecond_13 : decode cX6_setSecond 13 = .ok (.bipush 52, 2) := dk_16 52 (dk_at dksX6_setSecond_0 13 rfl rfl)
theorem dX6_setSecond_15 : decode cX6_setSecond 15 = .ok (.iload_n 1, 1) := dk_27 (dk_at dksX6_setSecond_0 15 rfl rfl)
theorem dX6_setSecond_16 : decode cX6_setSecond 16 = .ok (.invokevirtual 253, 3) := dk_182 0 253 (dk_at dksX6_setSecond_0 16 rfl rfl)
theorem dX6_setSecond_19 : decode cX6_setSecond 19 = .ok (.goto 8, 3) := dk_167 0 8 (dk_at dksX6_setSecond_0 19 rfl rfl)
theorem dX6_setSecond_22 : decode cX6_setSecond 22 = .ok (.aload_n 0, 1) := dk_42 (dk_at dksX6_setSecond_0 22 rfl rfl)
theorem dX6_setSecond_23 : decode cX6_setSecond 23 = .ok (.iconst 1, 1) := dk_4 (dk_at dksX6_setSecond_0 23 rfl rfl)
theorem dX6_setSecond_24 : decode cX6_setSecond 24 = .ok (.invokevirtual 136, 3) := dk_182 0 136 (dk_at dksX6_setSecond_1 0 rfl rfl)
theorem dX6_setSecond_27 : decode cX6_setSecond 27 = .ok (.ireturn, 1) := dk_172 (dk_at dksX6_setSecond_1 3 rfl rfl)
abbrev cX6_setStoredCount : ByteArray := prog_12_method_58_code
def yX6_setStoredCount : MethodName := ⟨RX6, "setStoredCount", "(I)I"⟩
def dkwX6_setStoredCount_1 : List UInt8 := [167, 0, 8, 42, 4, 182, 0, 136, 172]
abbrev dktX6_setStoredCount_1 : List UInt8 := dkwX6_setStoredCount_1 ++ []
def dkwX6_setStoredCount_0 : List UInt8 := [42, 3, 181, 0, 3, 27, 133, 9, 20, 1, 1, 184, 0, 61, 153, 0, 13, 42, 16, 53, 27, 182, 0, 253]
abbrev dktX6_setStoredCount_0 : List UInt8 := dkwX6_setStoredCount_0 ++ dktX6_setStoredCount_1
theorem dksX6_setStoredCount_0 : cX6_setStoredCount.data.toList.drop 0 = dktX6_setStoredCount_0 := by decide +kernel
theorem dksX6_setStoredCount_1 : cX6_setStoredCount.data.toList.drop 24 = dktX6_setStoredCount_1 := dk_seg dksX6_setStoredCount_0 24 rfl rfl
theorem dX6_setStoredCount_0 : decode cX6_setStoredCount 0 = .ok (.aload_n 0, 1) := dk_42 (dk_at dksX6_setStoredCount_0 0 rfl rfl)
theorem dX6_setStoredCount_1 : decode cX6_setStoredCount 1 = .ok (.iconst 0, 1) := dk_3 (dk_at dksX6_setStoredCount_0 1 rfl rfl)
theorem dX6_setStoredCount_2 : decode cX6_setStoredCount 2 = .ok (.putfield 3, 3) := dk_181 0 3 (dk_at dksX6_setStoredCount_0 2 rfl rfl)
theorem dX6_setStoredCount_5 : decode cX6_setStoredCount 5 = .ok (.iload_n 1, 1) := dk_27 (dk_at dksX6_setStoredCount_0 5 rfl rfl)
theorem dX6_setStoredCount_6 : decode cX6_setStoredCount 6 = .ok (.i2l, 1) := dk_133 (dk_at dksX6_setStoredCount_0 6 rfl rfl)
theorem dX6_setStoredCount_7 : decode cX6_setStoredCount 7 = .ok (.lconst 0, 1) := dk_9 (dk_at dksX6_setStoredCount_0 7 rfl rfl)
theorem dX6_setStoredCount_8 : decode cX6_setStoredCount 8 = .ok (.ldc2_w 257, 3) := dk_20 1 1 (dk_at dksX6_setStoredCount_0 8 rfl rfl)
theorem dX6_setStoredCount_11 : decode cX6_setStoredCount 11 = .ok (.invokestatic 61, 3) := dk_184 0 61 (dk_at dksX6_setStoredCount_0 11 rfl rfl)
theorem dX6_setStoredCount_14 : decode cX6_setStoredCount 14 = .ok (.ifCond .eq 13, 3) := dk_153 0 13 (dk_at dksX6_setStoredCount_0 14 rfl rfl)
theorem dX6_setStoredCount_17 : decode cX6_setStoredCount 17 = .ok (.aload_n 0, 1) := dk_42 (dk_at dksX6_setStoredCount_0 17 rfl rfl)
theorem dX6_setStoredCount_18 : decode cX6_setStoredCount 18 = .ok (.bipush 53, 2) := dk_16 53 (dk_at dksX6_setStoredCount_0 18 rfl rfl)
theorem dX6_setStoredCount_20 : decode cX6_setStoredCount 20 = .ok (.iload_n 1, 1) := dk_27 (dk_at dksX6_setStoredCount_0 20 rfl rfl)
theorem dX6_setStoredCount_21 : decode cX6_setStoredCount 21 = .ok (.invokevirtual 253, 3) := dk_182 0 253 (dk_at dksX6_setStoredCount_0 21 rfl rfl)
theorem dX6_setStoredCount_24 : decode cX6_setStoredCount 24 = .ok (.goto 8, 3) := dk_167 0 8 (dk_at dksX6_setStoredCount_1 0 rfl rfl)
theorem dX6_setStoredCount_27 : decode cX6_setStoredCount 27 = .ok (.aload_n 0, 1) := dk_42 (dk_at dksX6_setStoredCount_1 3 rfl rfl)
theorem dX6_setStoredCount_28 : decode cX6_setStoredCount 28 = .ok (.iconst 1, 1) := dk_4 (dk_at dksX6_setStoredCount_1 4 rfl rfl)
theorem dX6_setStoredCount_29 : decode cX6_setStoredCount 29 = .ok (.invokevirtual 136, 3) := dk_182 0 136 (dk_at dksX6_setStoredCount_1 5 rfl rfl)
theorem dX6_setStoredCount_32 : decode cX6_setStoredCount 32 = .ok (.ireturn, 1) := dk_172 (dk_at dksX6_setStoredCount_1 8 rfl rfl)
abbrev cX6_repair : ByteArray := prog_12_method_59_code
def yX6_repair : MethodName := ⟨RX6, "repair", "()I"⟩
def dkwX6_repair_1 : List UInt8 := [182, 0, 242, 42, 180, 0, 13, 27, 42, 180, 0, 23, 27, 46, 79, 42, 180, 0, 13, 27, 46, 172]
abbrev dktX6_repair_1 : List UInt8 := dkwX6_repair_1 ++ []
def dkwX6_repair_0 : List UInt8 := [42, 3, 181, 0, 3, 42, 182, 1, 3, 60, 27, 2, 160, 0, 9, 42, 4, 182, 0, 136, 172, 42]
abbrev dktX6_repair_0 : List UInt8 := dkwX6_repair_0 ++ dktX6_repair_1
theorem dksX6_repair_0 : cX6_repair.data.toList.drop 0 = dktX6_repair_0 := by decide +kernel
theorem dksX6_repair_1 : cX6_repair.data.toList.drop 22 = dktX6_repair_1 := dk_seg dksX6_repair_0 22 rfl rfl
theorem dX6_repair_0 : decode cX6_repair 0 = .ok (.aload_n 0, 1) := dk_42 (dk_at dksX6_repair_0 0 rfl rfl)
theorem dX6_repair_1 : decode cX6_repair 1 = .ok (.iconst 0, 1) := dk_3 (dk_at dksX6_repair_0 1 rfl rfl)
theorem dX6_repair_2 : decode cX6_repair 2 = .ok (.putfield 3, 3) := dk_181 0 3 (dk_at dksX6_repair_0 2 rfl rfl)
theorem dX6_repair_5 : decode cX6_repair 5 = .ok (.aload_n 0, 1) := dk_42 (dk_at dksX6_repair_0 5 rfl rfl)
theorem dX6_repair_6 : decode cX6_repair 6 = .ok (.invokevirtual 259, 3) := dk_182 1 3 (dk_at dksX6_repair_0 6 rfl rfl)
theorem dX6_repair_9 : decode cX6_repair 9 = .ok (.istore_n 1, 1) := dk_60 (dk_at dksX6_repair_0 9 rfl rfl)
theorem dX6_repair_10 : decode cX6_repair 10 = .ok (.iload_n 1, 1) := dk_27 (dk_at dksX6_repair_0 10 rfl rfl)
theorem dX6_repair_11 : decode cX6_repair 11 = .ok (.iconst (-1), 1) := dk_2 (dk_at dksX6_repair_0 11 rfl rfl)
theorem dX6_repair_12 : decode cX6_repair 12 = .ok (.if_icmp .ne 9, 3) := dk_160 0 9 (dk_at dksX6_repair_0 12 rfl rfl)
theorem dX6_repair_15 : decode cX6_repair 15 = .ok (.aload_n 0, 1) := dk_42 (dk_at dksX6_repair_0 15 rfl rfl)
theorem dX6_repair_16 : decode cX6_repair 16 = .ok (.iconst 1, 1) := dk_4 (dk_at dksX6_repair_0 16 rfl rfl)
theorem dX6_repair_17 : decode cX6_repair 17 = .ok (.invokevirtual 136, 3) := dk_182 0 136 (dk_at dksX6_repair_0 17 rfl rfl)
theorem dX6_repair_20 : decode cX6_repair 20 = .ok (.ireturn, 1) := dk_172 (dk_at dksX6_repair_0 20 rfl rfl)
theorem dX6_repair_21 : decode cX6_repair 21 = .ok (.aload_n 0, 1) := dk_42 (dk_at dksX6_repair_0 21 rfl rfl)
theorem dX6_repair_22 : decode cX6_repair 22 = .ok (.invokevirtual 242, 3) := dk_182 0 242 (dk_at dksX6_repair_1 0 rfl rfl)
theorem dX6_repair_25 : decode cX6_repair 25 = .ok (.aload_n 0, 1) := dk_42 (dk_at dksX6_repair_1 3 rfl rfl)
theorem dX6_repair_26 : decode cX6_repair 26 = .ok (.getfield 13, 3) := dk_180 0 13 (dk_at dksX6_repair_1 4 rfl rfl)
theorem dX6_repair_29 : decode cX6_repair 29 = .ok (.iload_n 1, 1) := dk_27 (dk_at dksX6_repair_1 7 rfl rfl)
theorem dX6_repair_30 : decode cX6_repair 30 = .ok (.aload_n 0, 1) := dk_42 (dk_at dksX6_repair_1 8 rfl rfl)
theorem dX6_repair_31 : decode cX6_repair 31 = .ok (.getfield 23, 3) := dk_180 0 23 (dk_at dksX6_repair_1 9 rfl rfl)
theorem dX6_repair_34 : decode cX6_repair 34 = .ok (.iload_n 1, 1) := dk_27 (dk_at dksX6_repair_1 12 rfl rfl)
theorem dX6_repair_35 : decode cX6_repair 35 = .ok (.iaload, 1) := dk_46 (dk_at dksX6_repair_1 13 rfl rfl)
theorem dX6_repair_36 : decode cX6_repair 36 = .ok (.iastore, 1) := dk_79 (dk_at dksX6_repair_1 14 rfl rfl)
theorem dX6_repair_37 : decode cX6_repair 37 = .ok (.aload_n 0, 1) := dk_42 (dk_at dksX6_repair_1 15 rfl rfl)
theorem dX6_repair_38 : decode cX6_repair 38 = .ok (.getfield 13, 3) := dk_180 0 13 (dk_at dksX6_repair_1 16 rfl rfl)
theorem dX6_repair_41 : decode cX6_repair 41 = .ok (.iload_n 1, 1) := dk_27 (dk_at dksX6_repair_1 19 rfl rfl)
theorem dX6_repair_42 : decode cX6_repair 42 = .ok (.iaload, 1) := dk_46 (dk_at dksX6_repair_1 20 rfl rfl)
theorem dX6_repair_43 : decode cX6_repair 43 = .ok (.ireturn, 1) := dk_172 (dk_at dksX6_repair_1 21 rfl rfl)
abbrev cX6_fault : ByteArray := prog_12_method_21_code
def yX6_fault : MethodName := ⟨RX6, "fault", "()I"⟩
def dkwX6_fault_4 : List UInt8 := [167, 255, 185, 2, 172]
abbrev dktX6_fault_4 : List UInt8 := dkwX6_fault_4 ++ []
def dkwX6_fault_3 : List UInt8 := [180, 0, 23, 27, 46, 79, 42, 42, 180, 0, 26, 182, 0, 101, 153, 0, 5, 27, 172, 132, 1, 1]
abbrev dktX6_fault_3 : List UInt8 := dkwX6_fault_3 ++ dktX6_fault_4
def dkwX6_fault_2 : List UInt8 := [27, 46, 159, 0, 39, 42, 180, 0, 13, 42, 180, 0, 26, 184, 0, 55, 42, 180, 0, 26, 27, 42]
abbrev dktX6_fault_2 : List UInt8 := dkwX6_fault_2 ++ dktX6_fault_3
def dkwX6_fault_1 : List UInt8 := [162, 0, 71, 42, 180, 0, 13, 27, 184, 0, 78, 153, 0, 54, 42, 180, 0, 13, 27, 46, 42, 180, 0, 23]
abbrev dktX6_fault_1 : List UInt8 := dkwX6_fault_1 ++ dktX6_fault_2
def dkwX6_fault_0 : List UInt8 := [42, 42, 180, 0, 13, 182, 0, 101, 153, 0, 5, 2, 172, 42, 182, 0, 75, 16, 51, 60, 27, 16, 78]
abbrev dktX6_fault_0 : List UInt8 := dkwX6_fault_0 ++ dktX6_fault_1
theorem dksX6_fault_0 : cX6_fault.data.toList.drop 0 = dktX6_fault_0 := by decide +kernel
theorem dksX6_fault_1 : cX6_fault.data.toList.drop 23 = dktX6_fault_1 := dk_seg dksX6_fault_0 23 rfl rfl
theorem dksX6_fault_2 : cX6_fault.data.toList.drop 47 = dktX6_fault_2 := dk_seg dksX6_fault_1 24 rfl rfl
theorem dksX6_fault_3 : cX6_fault.data.toList.drop 69 = dktX6_fault_3 := dk_seg dksX6_fault_2 22 rfl rfl
theorem dksX6_fault_4 : cX6_fault.data.toList.drop 91 = dktX6_fault_4 := dk_seg dksX6_fault_3 22 rfl rfl
theorem dX6_fault_0 : decode cX6_fault 0 = .ok (.aload_n 0, 1) := dk_42 (dk_at dksX6_fault_0 0 rfl rfl)
theorem dX6_fault_1 : decode cX6_fault 1 = .ok (.aload_n 0, 1) := dk_42 (dk_at dksX6_fault_0 1 rfl rfl)
theorem dX6_fault_2 : decode cX6_fault 2 = .ok (.getfield 13, 3) := dk_180 0 13 (dk_at dksX6_fault_0 2 rfl rfl)
theorem dX6_fault_5 : decode cX6_fault 5 = .ok (.invokevirtual 101, 3) := dk_182 0 101 (dk_at dksX6_fault_0 5 rfl rfl)
theorem dX6_fault_8 : decode cX6_fault 8 = .ok (.ifCond .eq 5, 3) := dk_153 0 5 (dk_at dksX6_fault_0 8 rfl rfl)
theorem dX6_fault_11 : decode cX6_fault 11 = .ok (.iconst (-1), 1) := dk_2 (dk_at dksX6_fault_0 11 rfl rfl)
theorem dX6_fault_12 : decode cX6_fault 12 = .ok (.ireturn, 1) := dk_172 (dk_at dksX6_fault_0 12 rfl rfl)
theorem dX6_fault_13 : decode cX6_fault 13 = .ok (.aload_n 0, 1) := dk_42 (dk_at dksX6_fault_0 13 rfl rfl)
theorem dX6_fault_14 : decode cX6_fault 14 = .ok (.invokevirtual 75, 3) := dk_182 0 75 (dk_at dksX6_fault_0 14 rfl rfl)
theorem dX6_fault_17 : decode cX6_fault 17 = .ok (.bipush 51, 2) := dk_16 51 (dk_at dksX6_fault_0 17 rfl rfl)
theorem dX6_fault_19 : decode cX6_fault 19 = .ok (.istore_n 1, 1) := dk_60 (dk_at dksX6_fault_0 19 rfl rfl)
theorem dX6_fault_20 : decode cX6_fault 20 = .ok (.iload_n 1, 1) := dk_27 (dk_at dksX6_fault_0 20 rfl rfl)
theorem dX6_fault_21 : decode cX6_fault 21 = .ok (.bipush 78, 2) := dk_16 78 (dk_at dksX6_fault_0 21 rfl rfl)
theorem dX6_fault_23 : decode cX6_fault 23 = .ok (.if_icmp .ge 71, 3) := dk_162 0 71 (dk_at dksX6_fault_1 0 rfl rfl)
theorem dX6_fault_26 : decode cX6_fault 26 = .ok (.aload_n 0, 1) := dk_42 (dk_at dksX6_fault_1 3 rfl rfl)
theorem dX6_fault_27 : decode cX6_fault 27 = .ok (.getfield 13, 3) := dk_180 0 13 (dk_at dksX6_fault_1 4 rfl rfl)
theorem dX6_fault_30 : decode cX6_fault 30 = .ok (.iload_n 1, 1) := dk_27 (dk_at dksX6_fault_1 7 rfl rfl)
theorem dX6_fault_31 : decode cX6_fault 31 = .ok (.invokestatic 78, 3) := dk_184 0 78 (dk_at dksX6_fault_1 8 rfl rfl)
theorem dX6_fault_34 : decode cX6_fault 34 = .ok (.ifCond .eq 54, 3) := dk_153 0 54 (dk_at dksX6_fault_1 11 rfl rfl)
theorem dX6_fault_37 : decode cX6_fault 37 = .ok (.aload_n 0, 1) := dk_42 (dk_at dksX6_fault_1 14 rfl rfl)
theorem dX6_fault_38 : decode cX6_fault 38 = .ok (.getfield 13, 3) := dk_180 0 13 (dk_at dksX6_fault_1 15 rfl rfl)
theorem dX6_fault_41 : decode cX6_fault 41 = .ok (.iload_n 1, 1) := dk_27 (dk_at dksX6_fault_1 18 rfl rfl)
theorem dX6_fault_42 : decode cX6_fault 42 = .ok (.iaload, 1) := dk_46 (dk_at dksX6_fault_1 19 rfl rfl)
theorem dX6_fault_43 : decode cX6_fault 43 = .ok (.aload_n 0, 1) := dk_42 (dk_at dksX6_fault_1 20 rfl rfl)
theorem dX6_fault_44 : decode cX6_fault 44 = .ok (.getfield 23, 3) := dk_180 0 23 (dk_at dksX6_fault_1 21 rfl rfl)
theorem dX6_fault_47 : decode cX6_fault 47 = .ok (.iload_n 1, 1) := dk_27 (dk_at dksX6_fault_2 0 rfl rfl)
theorem dX6_fault_48 : decode cX6_fault 48 = .ok (.iaload, 1) := dk_46 (dk_at dksX6_fault_2 1 rfl rfl)
theorem dX6_fault_49 : decode cX6_fault 49 = .ok (.if_icmp .eq 39, 3) := dk_159 0 39 (dk_at dksX6_fault_2 2 rfl rfl)
theorem dX6_fault_52 : decode cX6_fault 52 = .ok (.aload_n 0, 1) := dk_42 (dk_at dksX6_fault_2 5 rfl rfl)
theorem dX6_fault_53 : decode cX6_fault 53 = .ok (.getfield 13, 3) := dk_180 0 13 (dk_at dksX6_fault_2 6 rfl rfl)
theorem dX6_fault_56 : decode cX6_fault 56 = .ok (.aload_n 0, 1) := dk_42 (dk_at dksX6_fault_2 9 rfl rfl)
theorem dX6_fault_57 : decode cX6_fault 57 = .ok (.getfield 26, 3) := dk_180 0 26 (dk_at dksX6_fault_2 10 rfl rfl)
theorem dX6_fault_60 : decode cX6_fault 60 = .ok (.invokestatic 55, 3) := dk_184 0 55 (dk_at dksX6_fault_2 13 rfl rfl)
theorem dX6_fault_63 : decode cX6_fault 63 = .ok (.aload_n 0, 1) := dk_42 (dk_at dksX6_fault_2 16 rfl rfl)
theorem dX6_fault_64 : decode cX6_fault 64 = .ok (.getfield 26, 3) := dk_180 0 26 (dk_at dksX6_fault_2 17 rfl rfl)
theorem dX6_fault_67 : decode cX6_fault 67 = .ok (.iload_n 1, 1) := dk_27 (dk_at dksX6_fault_2 20 rfl rfl)
theorem dX6_fault_68 : decode cX6_fault 68 = .ok (.aload_n 0, 1) := dk_42 (dk_at dksX6_fault_2 21 rfl rfl)
theorem dX6_fault_69 : decode cX6_fault 69 = .ok (.getfield 23, 3) := dk_180 0 23 (dk_at dksX6_fault_3 0 rfl rfl)
theorem dX6_fault_72 : decode cX6_fault 72 = .ok (.iload_n 1, 1) := dk_27 (dk_at dksX6_fault_3 3 rfl rfl)
theorem dX6_fault_73 : decode cX6_fault 73 = .ok (.iaload, 1) := dk_46 (dk_at dksX6_fault_3 4 rfl rfl)
theorem dX6_fault_74 : decode cX6_fault 74 = .ok (.iastore, 1) := dk_79 (dk_at dksX6_fault_3 5 rfl rfl)
theorem dX6_fault_75 : decode cX6_fault 75 = .ok (.aload_n 0, 1) := dk_42 (dk_at dksX6_fault_3 6 rfl rfl)
theorem dX6_fault_76 : decode cX6_fault 76 = .ok (.aload_n 0, 1) := dk_42 (dk_at dksX6_fault_3 7 rfl rfl)
theorem dX6_fault_77 : decode cX6_fault 77 = .ok (.getfield 26, 3) := dk_180 0 26 (dk_at dksX6_fault_3 8 rfl rfl)
theorem dX6_fault_80 : decode cX6_fault 80 = .ok (.invokevirtual 101, 3) := dk_182 0 101 (dk_at dksX6_fault_3 11 rfl rfl)
theorem dX6_fault_83 : decode cX6_fault 83 = .ok (.ifCond .eq 5, 3) := dk_153 0 5 (dk_at dksX6_fault_3 14 rfl rfl)
theorem dX6_fault_86 : decode cX6_fault 86 = .ok (.iload_n 1, 1) := dk_27 (dk_at dksX6_fault_3 17 rfl rfl)
theorem dX6_fault_87 : decode cX6_fault 87 = .ok (.ireturn, 1) := dk_172 (dk_at dksX6_fault_3 18 rfl rfl)
theorem dX6_fault_88 : decode cX6_fault 88 = .ok (.iinc 1 1, 3) := dk_132 1 1 (dk_at dksX6_fault_3 19 rfl rfl)
theorem dX6_fault_91 : decode cX6_fault 91 = .ok (.goto (-71), 3) := dk_167 255 185 (dk_at dksX6_fault_4 0 rfl rfl)
theorem dX6_fault_94 : decode cX6_fault 94 = .ok (.iconst (-1), 1) := dk_2 (dk_at dksX6_fault_4 3 rfl rfl)
theorem dX6_fault_95 : decode cX6_fault 95 = .ok (.ireturn, 1) := dk_172 (dk_at dksX6_fault_4 4 rfl rfl)
abbrev cX6_laysDue : ByteArray := prog_12_method_14_code
def yX6_laysDue : MethodName := ⟨RX6, "laysDue", "()V"⟩
def dkwX6_laysDue_0 : List UInt8 := [42, 180, 0, 13, 42, 180, 0, 23, 184, 0, 55, 42, 180, 0, 23, 184, 0, 48, 177]
abbrev dktX6_laysDue_0 : List UInt8 := dkwX6_laysDue_0 ++ []
theorem dksX6_laysDue_0 : cX6_laysDue.data.toList.drop 0 = dktX6_laysDue_0 := by decide +kernel
theorem dX6_laysDue_0 : decode cX6_laysDue 0 = .ok (.aload_n 0, 1) := dk_42 (dk_at dksX6_laysDue_0 0 rfl rfl)
theorem dX6_laysDue_1 : decode cX6_laysDue 1 = .ok (.getfield 13, 3) := dk_180 0 13 (dk_at dksX6_laysDue_0 1 rfl rfl)
theorem dX6_laysDue_4 : decode cX6_laysDue 4 = .ok (.aload_n 0, 1) := dk_42 (dk_at dksX6_laysDue_0 4 rfl rfl)
theorem dX6_laysDue_5 : decode cX6_laysDue 5 = .ok (.getfield 23, 3) := dk_180 0 23 (dk_at dksX6_laysDue_0 5 rfl rfl)
theorem dX6_laysDue_8 : decode cX6_laysDue 8 = .ok (.invokestatic 55, 3) := dk_184 0 55 (dk_at dksX6_laysDue_0 8 rfl rfl)
theorem dX6_laysDue_11 : decode cX6_laysDue 11 = .ok (.aload_n 0, 1) := dk_42 (dk_at dksX6_laysDue_0 11 rfl rfl)
theorem dX6_laysDue_12 : decode cX6_laysDue 12 = .ok (.getfield 23, 3) := dk_180 0 23 (dk_at dksX6_laysDue_0 12 rfl rfl)
theorem dX6_laysDue_15 : decode cX6_laysDue 15 = .ok (.invokestatic 48, 3) := dk_184 0 48 (dk_at dksX6_laysDue_0 15 rfl rfl)
theorem dX6_laysDue_18 : decode cX6_laysDue 18 = .ok (.return_, 1) := dk_177 (dk_at dksX6_laysDue_0 18 rfl rfl)
abbrev cX6_isStored : ByteArray := prog_12_method_15_code
def yX6_isStored : MethodName := ⟨RX6, "isStored", "([II)Z"⟩
def dkwX6_isStored_1 : List UInt8 := [160, 0, 7, 4, 167, 0, 4, 3, 172]
abbrev dktX6_isStored_1 : List UInt8 := dkwX6_isStored_1 ++ []
def dkwX6_isStored_0 : List UInt8 := [27, 16, 51, 161, 0, 28, 27, 16, 54, 161, 0, 18, 42, 6, 27, 16, 54, 100, 16, 12, 112, 96, 46, 4]
abbrev dktX6_isStored_0 : List UInt8 := dkwX6_isStored_0 ++ dktX6_isStored_1
theorem dksX6_isStored_0 : cX6_isStored.data.toList.drop 0 = dktX6_isStored_0 := by decide +kernel
theorem dksX6_isStored_1 : cX6_isStored.data.toList.drop 24 = dktX6_isStored_1 := dk_seg dksX6_isStored_0 24 rfl rfl
theorem dX6_isStored_0 : decode cX6_isStored 0 = .ok (.iload_n 1, 1) := dk_27 (dk_at dksX6_isStored_0 0 rfl rfl)
theorem dX6_isStored_1 : decode cX6_isStored 1 = .ok (.bipush 51, 2) := dk_16 51 (dk_at dksX6_isStored_0 1 rfl rfl)
theorem dX6_isStored_3 : decode cX6_isStored 3 = .ok (.if_icmp .lt 28, 3) := dk_161 0 28 (dk_at dksX6_isStored_0 3 rfl rfl)
theorem dX6_isStored_6 : decode cX6_isStored 6 = .ok (.iload_n 1, 1) := dk_27 (dk_at dksX6_isStored_0 6 rfl rfl)
theorem dX6_isStored_7 : decode cX6_isStored 7 = .ok (.bipush 54, 2) := dk_16 54 (dk_at dksX6_isStored_0 7 rfl rfl)
theorem dX6_isStored_9 : decode cX6_isStored 9 = .ok (.if_icmp .lt 18, 3) := dk_161 0 18 (dk_at dksX6_isStored_0 9 rfl rfl)
theorem dX6_isStored_12 : decode cX6_isStored 12 = .ok (.aload_n 0, 1) := dk_42 (dk_at dksX6_isStored_0 12 rfl rfl)
theorem dX6_isStored_13 : decode cX6_isStored 13 = .ok (.iconst 3, 1) := dk_6 (dk_at dksX6_isStored_0 13 rfl rfl)
theorem dX6_isStored_14 : decode cX6_isStored 14 = .ok (.iload_n 1, 1) := dk_27 (dk_at dksX6_isStored_0 14 rfl rfl)
theorem dX6_isStored_15 : decode cX6_isStored 15 = .ok (.bipush 54, 2) := dk_16 54 (dk_at dksX6_isStored_0 15 rfl rfl)
theorem dX6_isStored_17 : decode cX6_isStored 17 = .ok (.isub, 1) := dk_100 (dk_at dksX6_isStored_0 17 rfl rfl)
theorem dX6_isStored_18 : decode cX6_isStored 18 = .ok (.bipush 12, 2) := dk_16 12 (dk_at dksX6_isStored_0 18 rfl rfl)
theorem dX6_isStored_20 : decode cX6_isStored 20 = .ok (.irem, 1) := dk_112 (dk_at dksX6_isStored_0 20 rfl rfl)
theorem dX6_isStored_21 : decode cX6_isStored 21 = .ok (.iadd, 1) := dk_96 (dk_at dksX6_isStored_0 21 rfl rfl)
theorem dX6_isStored_22 : decode cX6_isStored 22 = .ok (.iaload, 1) := dk_46 (dk_at dksX6_isStored_0 22 rfl rfl)
theorem dX6_isStored_23 : decode cX6_isStored 23 = .ok (.iconst 1, 1) := dk_4 (dk_at dksX6_isStored_0 23 rfl rfl)
theorem dX6_isStored_24 : decode cX6_isStored 24 = .ok (.if_icmp .ne 7, 3) := dk_160 0 7 (dk_at dksX6_isStored_1 0 rfl rfl)
theorem dX6_isStored_27 : decode cX6_isStored 27 = .ok (.iconst 1, 1) := dk_4 (dk_at dksX6_isStored_1 3 rfl rfl)
theorem dX6_isStored_28 : decode cX6_isStored 28 = .ok (.goto 4, 3) := dk_167 0 4 (dk_at dksX6_isStored_1 4 rfl rfl)
theorem dX6_isStored_31 : decode cX6_isStored 31 = .ok (.iconst 0, 1) := dk_3 (dk_at dksX6_isStored_1 7 rfl rfl)
theorem dX6_isStored_32 : decode cX6_isStored 32 = .ok (.ireturn, 1) := dk_172 (dk_at dksX6_isStored_1 8 rfl rfl)
abbrev cX6_rebuild : ByteArray := prog_12_method_60_code
def yX6_rebuild : MethodName := ⟨RX6, "rebuild", "()I"⟩
def dkwX6_rebuild_0 : List UInt8 := [42, 3, 181, 0, 3, 42, 182, 1, 6, 60, 42, 182, 0, 242, 42, 180, 0, 13, 184, 0, 48, 27, 172]
abbrev dktX6_rebuild_0 : List UInt8 := dkwX6_rebuild_0 ++ []
theorem dksX6_rebuild_0 : cX6_rebuild.data.toList.drop 0 = dktX6_rebuild_0 := by decide +kernel
theorem dX6_rebuild_0 : decode cX6_rebuild 0 = .ok (.aload_n 0, 1) := dk_42 (dk_at dksX6_rebuild_0 0 rfl rfl)
theorem dX6_rebuild_1 : decode cX6_rebuild 1 = .ok (.iconst 0, 1) := dk_3 (dk_at dksX6_rebuild_0 1 rfl rfl)
theorem dX6_rebuild_2 : decode cX6_rebuild 2 = .ok (.putfield 3, 3) := dk_181 0 3 (dk_at dksX6_rebuild_0 2 rfl rfl)
theorem dX6_rebuild_5 : decode cX6_rebuild 5 = .ok (.aload_n 0, 1) := dk_42 (dk_at dksX6_rebuild_0 5 rfl rfl)
theorem dX6_rebuild_6 : decode cX6_rebuild 6 = .ok (.invokevirtual 262, 3) := dk_182 1 6 (dk_at dksX6_rebuild_0 6 rfl rfl)
theorem dX6_rebuild_9 : decode cX6_rebuild 9 = .ok (.istore_n 1, 1) := dk_60 (dk_at dksX6_rebuild_0 9 rfl rfl)
theorem dX6_rebuild_10 : decode cX6_rebuild 10 = .ok (.aload_n 0, 1) := dk_42 (dk_at dksX6_rebuild_0 10 rfl rfl)
theorem dX6_rebuild_11 : decode cX6_rebuild 11 = .ok (.invokevirtual 242, 3) := dk_182 0 242 (dk_at dksX6_rebuild_0 11 rfl rfl)
theorem dX6_rebuild_14 : decode cX6_rebuild 14 = .ok (.aload_n 0, 1) := dk_42 (dk_at dksX6_rebuild_0 14 rfl rfl)
theorem dX6_rebuild_15 : decode cX6_rebuild 15 = .ok (.getfield 13, 3) := dk_180 0 13 (dk_at dksX6_rebuild_0 15 rfl rfl)
theorem dX6_rebuild_18 : decode cX6_rebuild 18 = .ok (.invokestatic 48, 3) := dk_184 0 48 (dk_at dksX6_rebuild_0 18 rfl rfl)
theorem dX6_rebuild_21 : decode cX6_rebuild 21 = .ok (.iload_n 1, 1) := dk_27 (dk_at dksX6_rebuild_0 21 rfl rfl)
theorem dX6_rebuild_22 : decode cX6_rebuild 22 = .ok (.ireturn, 1) := dk_172 (dk_at dksX6_rebuild_0 22 rfl rfl)
abbrev cX6_wrongOnes : ByteArray := prog_12_method_16_code
def yX6_wrongOnes : MethodName := ⟨RX6, "wrongOnes", "()I"⟩
def dkwX6_wrongOnes_2 : List UInt8 := [60, 132, 2, 1, 167, 255, 213, 27, 172]
abbrev dktX6_wrongOnes_2 : List UInt8 := dkwX6_wrongOnes_2 ++ []
def dkwX6_wrongOnes_1 : List UInt8 := [153, 0, 22, 42, 180, 0, 13, 28, 46, 42, 180, 0, 23, 28, 46, 159, 0, 7, 4, 167, 0, 4, 3, 96]
abbrev dktX6_wrongOnes_1 : List UInt8 := dkwX6_wrongOnes_1 ++ dktX6_wrongOnes_2
def dkwX6_wrongOnes_0 : List UInt8 := [42, 182, 0, 75, 3, 60, 16, 51, 61, 28, 16, 78, 162, 0, 43, 27, 42, 180, 0, 13, 28, 184, 0, 78]
abbrev dktX6_wrongOnes_0 : List UInt8 := dkwX6_wrongOnes_0 ++ dktX6_wrongOnes_1
theorem dksX6_wrongOnes_0 : cX6_wrongOnes.data.toList.drop 0 = dktX6_wrongOnes_0 := by decide +kernel
theorem dksX6_wrongOnes_1 : cX6_wrongOnes.data.toList.drop 24 = dktX6_wrongOnes_1 := dk_seg dksX6_wrongOnes_0 24 rfl rfl
theorem dksX6_wrongOnes_2 : cX6_wrongOnes.data.toList.drop 48 = dktX6_wrongOnes_2 := dk_seg dksX6_wrongOnes_1 24 rfl rfl
theorem dX6_wrongOnes_0 : decode cX6_wrongOnes 0 = .ok (.aload_n 0, 1) := dk_42 (dk_at dksX6_wrongOnes_0 0 rfl rfl)
theorem dX6_wrongOnes_1 : decode cX6_wrongOnes 1 = .ok (.invokevirtual 75, 3) := dk_182 0 75 (dk_at dksX6_wrongOnes_0 1 rfl rfl)
theorem dX6_wrongOnes_4 : decode cX6_wrongOnes 4 = .ok (.iconst 0, 1) := dk_3 (dk_at dksX6_wrongOnes_0 4 rfl rfl)
theorem dX6_wrongOnes_5 : decode cX6_wrongOnes 5 = .ok (.istore_n 1, 1) := dk_60 (dk_at dksX6_wrongOnes_0 5 rfl rfl)
theorem dX6_wrongOnes_6 : decode cX6_wrongOnes 6 = .ok (.bipush 51, 2) := dk_16 51 (dk_at dksX6_wrongOnes_0 6 rfl rfl)
theorem dX6_wrongOnes_8 : decode cX6_wrongOnes 8 = .ok (.istore_n 2, 1) := dk_61 (dk_at dksX6_wrongOnes_0 8 rfl rfl)
theorem dX6_wrongOnes_9 : decode cX6_wrongOnes 9 = .ok (.iload_n 2, 1) := dk_28 (dk_at dksX6_wrongOnes_0 9 rfl rfl)
theorem dX6_wrongOnes_10 : decode cX6_wrongOnes 10 = .ok (.bipush 78, 2) := dk_16 78 (dk_at dksX6_wrongOnes_0 10 rfl rfl)
theorem dX6_wrongOnes_12 : decode cX6_wrongOnes 12 = .ok (.if_icmp .ge 43, 3) := dk_162 0 43 (dk_at dksX6_wrongOnes_0 12 rfl rfl)
theorem dX6_wrongOnes_15 : decode cX6_wrongOnes 15 = .ok (.iload_n 1, 1) := dk_27 (dk_at dksX6_wrongOnes_0 15 rfl rfl)
theorem dX6_wrongOnes_16 : decode cX6_wrongOnes 16 = .ok (.aload_n 0, 1) := dk_42 (dk_at dksX6_wrongOnes_0 16 rfl rfl)
theorem dX6_wrongOnes_17 : decode cX6_wrongOnes 17 = .ok (.getfield 13, 3) := dk_180 0 13 (dk_at dksX6_wrongOnes_0 17 rfl rfl)
theorem dX6_wrongOnes_20 : decode cX6_wrongOnes 20 = .ok (.iload_n 2, 1) := dk_28 (dk_at dksX6_wrongOnes_0 20 rfl rfl)
theorem dX6_wrongOnes_21 : decode cX6_wrongOnes 21 = .ok (.invokestatic 78, 3) := dk_184 0 78 (dk_at dksX6_wrongOnes_0 21 rfl rfl)
theorem dX6_wrongOnes_24 : decode cX6_wrongOnes 24 = .ok (.ifCond .eq 22, 3) := dk_153 0 22 (dk_at dksX6_wrongOnes_1 0 rfl rfl)
theorem dX6_wrongOnes_27 : decode cX6_wrongOnes 27 = .ok (.aload_n 0, 1) := dk_42 (dk_at dksX6_wrongOnes_1 3 rfl rfl)
theorem dX6_wrongOnes_28 : decode cX6_wrongOnes 28 = .ok (.getfield 13, 3) := dk_180 0 13 (dk_at dksX6_wrongOnes_1 4 rfl rfl)
theorem dX6_wrongOnes_31 : decode cX6_wrongOnes 31 = .ok (.iload_n 2, 1) := dk_28 (dk_at dksX6_wrongOnes_1 7 rfl rfl)
theorem dX6_wrongOnes_32 : decode cX6_wrongOnes 32 = .ok (.iaload, 1) := dk_46 (dk_at dksX6_wrongOnes_1 8 rfl rfl)
theorem dX6_wrongOnes_33 : decode cX6_wrongOnes 33 = .ok (.aload_n 0, 1) := dk_42 (dk_at dksX6_wrongOnes_1 9 rfl rfl)
theorem dX6_wrongOnes_34 : decode cX6_wrongOnes 34 = .ok (.getfield 23, 3) := dk_180 0 23 (dk_at dksX6_wrongOnes_1 10 rfl rfl)
theorem dX6_wrongOnes_37 : decode cX6_wrongOnes 37 = .ok (.iload_n 2, 1) := dk_28 (dk_at dksX6_wrongOnes_1 13 rfl rfl)
theorem dX6_wrongOnes_38 : decode cX6_wrongOnes 38 = .ok (.iaload, 1) := dk_46 (dk_at dksX6_wrongOnes_1 14 rfl rfl)
theorem dX6_wrongOnes_39 : decode cX6_wrongOnes 39 = .ok (.if_icmp .eq 7, 3) := dk_159 0 7 (dk_at dksX6_wrongOnes_1 15 rfl rfl)
theorem dX6_wrongOnes_42 : decode cX6_wrongOnes 42 = .ok (.iconst 1, 1) := dk_4 (dk_at dksX6_wrongOnes_1 18 rfl rfl)
theorem dX6_wrongOnes_43 : decode cX6_wrongOnes 43 = .ok (.goto 4, 3) := dk_167 0 4 (dk_at dksX6_wrongOnes_1 19 rfl rfl)
theorem dX6_wrongOnes_46 : decode cX6_wrongOnes 46 = .ok (.iconst 0, 1) := dk_3 (dk_at dksX6_wrongOnes_1 22 rfl rfl)
theorem dX6_wrongOnes_47 : decode cX6_wrongOnes 47 = .ok (.iadd, 1) := dk_96 (dk_at dksX6_wrongOnes_1 23 rfl rfl)
theorem dX6_wrongOnes_48 : decode cX6_wrongOnes 48 = .ok (.istore_n 1, 1) := dk_60 (dk_at dksX6_wrongOnes_2 0 rfl rfl)
theorem dX6_wrongOnes_49 : decode cX6_wrongOnes 49 = .ok (.iinc 2 1, 3) := dk_132 2 1 (dk_at dksX6_wrongOnes_2 1 rfl rfl)
theorem dX6_wrongOnes_52 : decode cX6_wrongOnes 52 = .ok (.goto (-43), 3) := dk_167 255 213 (dk_at dksX6_wrongOnes_2 4 rfl rfl)
theorem dX6_wrongOnes_55 : decode cX6_wrongOnes 55 = .ok (.iload_n 1, 1) := dk_27 (dk_at dksX6_wrongOnes_2 7 rfl rfl)
theorem dX6_wrongOnes_56 : decode cX6_wrongOnes 56 = .ok (.ireturn, 1) := dk_172 (dk_at dksX6_wrongOnes_2 8 rfl rfl)
abbrev cX6_leaveLetters : ByteArray := prog_12_method_61_code
def yX6_leaveLetters : MethodName := ⟨RX6, "leaveLetters", "(II)I"⟩
def dkwX6_leaveLetters_3 : List UInt8 := [27, 96, 92, 46, 28, 96, 79, 42, 180, 0, 13, 16, 39, 27, 96, 46, 172]
abbrev dktX6_leaveLetters_3 : List UInt8 := dkwX6_leaveLetters_3 ++ []
def dkwX6_leaveLetters_2 : List UInt8 := [46, 28, 96, 16, 99, 164, 0, 9, 42, 6, 182, 0, 136, 172, 42, 182, 0, 242, 42, 180, 0, 13, 16, 39]
abbrev dktX6_leaveLetters_2 : List UInt8 := dkwX6_leaveLetters_2 ++ dktX6_leaveLetters_3
def dkwX6_leaveLetters_1 : List UInt8 := [10, 20, 1, 9, 184, 0, 61, 154, 0, 9, 42, 5, 182, 0, 136, 172, 42, 180, 0, 13, 16, 39, 27, 96]
abbrev dktX6_leaveLetters_1 : List UInt8 := dkwX6_leaveLetters_1 ++ dktX6_leaveLetters_2
def dkwX6_leaveLetters_0 : List UInt8 := [42, 3, 181, 0, 3, 42, 180, 0, 13, 27, 184, 0, 85, 154, 0, 9, 42, 4, 182, 0, 136, 172, 28, 133]
abbrev dktX6_leaveLetters_0 : List UInt8 := dkwX6_leaveLetters_0 ++ dktX6_leaveLetters_1
theorem dksX6_leaveLetters_0 : cX6_leaveLetters.data.toList.drop 0 = dktX6_leaveLetters_0 := by decide +kernel
theorem dksX6_leaveLetters_1 : cX6_leaveLetters.data.toList.drop 24 = dktX6_leaveLetters_1 := dk_seg dksX6_leaveLetters_0 24 rfl rfl
theorem dksX6_leaveLetters_2 : cX6_leaveLetters.data.toList.drop 48 = dktX6_leaveLetters_2 := dk_seg dksX6_leaveLetters_1 24 rfl rfl
theorem dksX6_leaveLetters_3 : cX6_leaveLetters.data.toList.drop 72 = dktX6_leaveLetters_3 := dk_seg dksX6_leaveLetters_2 24 rfl rfl
theorem dX6_leaveLetters_0 : decode cX6_leaveLetters 0 = .ok (.aload_n 0, 1) := dk_42 (dk_at dksX6_leaveLetters_0 0 rfl rfl)
theorem dX6_leaveLetters_1 : decode cX6_leaveLetters 1 = .ok (.iconst 0, 1) := dk_3 (dk_at dksX6_leaveLetters_0 1 rfl rfl)
theorem dX6_leaveLetters_2 : decode cX6_leaveLetters 2 = .ok (.putfield 3, 3) := dk_181 0 3 (dk_at dksX6_leaveLetters_0 2 rfl rfl)
theorem dX6_leaveLetters_5 : decode cX6_leaveLetters 5 = .ok (.aload_n 0, 1) := dk_42 (dk_at dksX6_leaveLetters_0 5 rfl rfl)
theorem dX6_leaveLetters_6 : decode cX6_leaveLetters 6 = .ok (.getfield 13, 3) := dk_180 0 13 (dk_at dksX6_leaveLetters_0 6 rfl rfl)
theorem dX6_leaveLetters_9 : decode cX6_leaveLetters 9 = .ok (.iload_n 1, 1) := dk_27 (dk_at dksX6_leaveLetters_0 9 rfl rfl)
theorem dX6_leaveLetters_10 : decode cX6_leaveLetters 10 = .ok (.invokestatic 85, 3) := dk_184 0 85 (dk_at dksX6_leaveLetters_0 10 rfl rfl)
theorem dX6_leaveLetters_13 : decode cX6_leaveLetters 13 = .ok (.ifCond .ne 9, 3) := dk_154 0 9 (dk_at dksX6_leaveLetters_0 13 rfl rfl)
theorem dX6_leaveLetters_16 : decode cX6_leaveLetters 16 = .ok (.aload_n 0, 1) := dk_42 (dk_at dksX6_leaveLetters_0 16 rfl rfl)
theorem dX6_leaveLetters_17 : decode cX6_leaveLetters 17 = .ok (.iconst 1, 1) := dk_4 (dk_at dksX6_leaveLetters_0 17 rfl rfl)
theorem dX6_leaveLetters_18 : decode cX6_leaveLetters 18 = .ok (.invokevirtual 136, 3) := dk_182 0 136 (dk_at dksX6_leaveLetters_0 18 rfl rfl)
theorem dX6_leaveLetters_21 : decode cX6_leaveLetters 21 = .ok (.ireturn, 1) := dk_172 (dk_at dksX6_leaveLetters_0 21 rfl rfl)
theorem dX6_leaveLetters_22 : decode cX6_leaveLetters 22 = .ok (.iload_n 2, 1) := dk_28 (dk_at dksX6_leaveLetters_0 22 rfl rfl)
theorem dX6_leaveLetters_23 : decode cX6_leaveLetters 23 = .ok (.i2l, 1) := dk_133 (dk_at dksX6_leaveLetters_0 23 rfl rfl)
theorem dX6_leaveLetters_24 : decode cX6_leaveLetters 24 = .ok (.lconst 1, 1) := dk_10 (dk_at dksX6_leaveLetters_1 0 rfl rfl)
theorem dX6_leaveLetters_25 : decode cX6_leaveLetters 25 = .ok (.ldc2_w 265, 3) := dk_20 1 9 (dk_at dksX6_leaveLetters_1 1 rfl rfl)
theorem dX6_leaveLetters_28 : decode cX6_leaveLetters 28 = .ok (.invokestatic 61, 3) := dk_184 0 61 (dk_at dksX6_leaveLetters_1 4 rfl rfl)
theorem dX6_leaveLetters_31 : decode cX6_leaveLetters 31 = .ok (.ifCond .ne 9, 3) := dk_154 0 9 (dk_at dksX6_leaveLetters_1 7 rfl rfl)
theorem dX6_leaveLetters_34 : decode cX6_leaveLetters 34 = .ok (.aload_n 0, 1) := dk_42 (dk_at dksX6_leaveLetters_1 10 rfl rfl)
theorem dX6_leaveLetters_35 : decode cX6_leaveLetters 35 = .ok (.iconst 2, 1) := dk_5 (dk_at dksX6_leaveLetters_1 11 rfl rfl)
theorem dX6_leaveLetters_36 : decode cX6_leaveLetters 36 = .ok (.invokevirtual 136, 3) := dk_182 0 136 (dk_at dksX6_leaveLetters_1 12 rfl rfl)
theorem dX6_leaveLetters_39 : decode cX6_leaveLetters 39 = .ok (.ireturn, 1) := dk_172 (dk_at dksX6_leaveLetters_1 15 rfl rfl)
theorem dX6_leaveLetters_40 : decode cX6_leaveLetters 40 = .ok (.aload_n 0, 1) := dk_42 (dk_at dksX6_leaveLetters_1 16 rfl rfl)
theorem dX6_leaveLetters_41 : decode cX6_leaveLetters 41 = .ok (.getfield 13, 3) := dk_180 0 13 (dk_at dksX6_leaveLetters_1 17 rfl rfl)
theorem dX6_leaveLetters_44 : decode cX6_leaveLetters 44 = .ok (.bipush 39, 2) := dk_16 39 (dk_at dksX6_leaveLetters_1 20 rfl rfl)
theorem dX6_leaveLetters_46 : decode cX6_leaveLetters 46 = .ok (.iload_n 1, 1) := dk_27 (dk_at dksX6_leaveLetters_1 22 rfl rfl)
theorem dX6_leaveLetters_47 : decode cX6_leaveLetters 47 = .ok (.iadd, 1) := dk_96 (dk_at dksX6_leaveLetters_1 23 rfl rfl)
theorem dX6_leaveLetters_48 : decode cX6_leaveLetters 48 = .ok (.iaload, 1) := dk_46 (dk_at dksX6_leaveLetters_2 0 rfl rfl)
theorem dX6_leaveLetters_49 : decode cX6_leaveLetters 49 = .ok (.iload_n 2, 1) := dk_28 (dk_at dksX6_leaveLetters_2 1 rfl rfl)
theorem dX6_leaveLetters_50 : decode cX6_leaveLetters 50 = .ok (.iadd, 1) := dk_96 (dk_at dksX6_leaveLetters_2 2 rfl rfl)
theorem dX6_leaveLetters_51 : decode cX6_leaveLetters 51 = .ok (.bipush 99, 2) := dk_16 99 (dk_at dksX6_leaveLetters_2 3 rfl rfl)
theorem dX6_leaveLetters_53 : decode cX6_leaveLetters 53 = .ok (.if_icmp .le 9, 3) := dk_164 0 9 (dk_at dksX6_leaveLetters_2 5 rfl rfl)
theorem dX6_leaveLetters_56 : decode cX6_leaveLetters 56 = .ok (.aload_n 0, 1) := dk_42 (dk_at dksX6_leaveLetters_2 8 rfl rfl)
theorem dX6_leaveLetters_57 : decode cX6_leaveLetters 57 = .ok (.iconst 3, 1) := dk_6 (dk_at dksX6_leaveLetters_2 9 rfl rfl)
theorem dX6_leaveLetters_58 : decode cX6_leaveLetters 58 = .ok (.invokevirtual 136, 3) := dk_182 0 136 (dk_at dksX6_leaveLetters_2 10 rfl rfl)
theorem dX6_leaveLetters_61 : decode cX6_leaveLetters 61 = .ok (.ireturn, 1) := dk_172 (dk_at dksX6_leaveLetters_2 13 rfl rfl)
theorem dX6_leaveLetters_62 : decode cX6_leaveLetters 62 = .ok (.aload_n 0, 1) := dk_42 (dk_at dksX6_leaveLetters_2 14 rfl rfl)
theorem dX6_leaveLetters_63 : decode cX6_leaveLetters 63 = .ok (.invokevirtual 242, 3) := dk_182 0 242 (dk_at dksX6_leaveLetters_2 15 rfl rfl)
theorem dX6_leaveLetters_66 : decode cX6_leaveLetters 66 = .ok (.aload_n 0, 1) := dk_42 (dk_at dksX6_leaveLetters_2 18 rfl rfl)
theorem dX6_leaveLetters_67 : decode cX6_leaveLetters 67 = .ok (.getfield 13, 3) := dk_180 0 13 (dk_at dksX6_leaveLetters_2 19 rfl rfl)
theorem dX6_leaveLetters_70 : decode cX6_leaveLetters 70 = .ok (.bipush 39, 2) := dk_16 39 (dk_at dksX6_leaveLetters_2 22 rfl rfl)
theorem dX6_leaveLetters_72 : decode cX6_leaveLetters 72 = .ok (.iload_n 1, 1) := dk_27 (dk_at dksX6_leaveLetters_3 0 rfl rfl)
theorem dX6_leaveLetters_73 : decode cX6_leaveLetters 73 = .ok (.iadd, 1) := dk_96 (dk_at dksX6_leaveLetters_3 1 rfl rfl)
theorem dX6_leaveLetters_74 : decode cX6_leaveLetters 74 = .ok (.dup2, 1) := dk_92 (dk_at dksX6_leaveLetters_3 2 rfl rfl)
theorem dX6_leaveLetters_75 : decode cX6_leaveLetters 75 = .ok (.iaload, 1) := dk_46 (dk_at dksX6_leaveLetters_3 3 rfl rfl)
theorem dX6_leaveLetters_76 : decode cX6_leaveLetters 76 = .ok (.iload_n 2, 1) := dk_28 (dk_at dksX6_leaveLetters_3 4 rfl rfl)
theorem dX6_leaveLetters_77 : decode cX6_leaveLetters 77 = .ok (.iadd, 1) := dk_96 (dk_at dksX6_leaveLetters_3 5 rfl rfl)
theorem dX6_leaveLetters_78 : decode cX6_leaveLetters 78 = .ok (.iastore, 1) := dk_79 (dk_at dksX6_leaveLetters_3 6 rfl rfl)
theorem dX6_leaveLetters_79 : decode cX6_leaveLetters 79 = .ok (.aload_n 0, 1) := dk_42 (dk_at dksX6_leaveLetters_3 7 rfl rfl)
theorem dX6_leaveLetters_80 : decode cX6_leaveLetters 80 = .ok (.getfield 13, 3) := dk_180 0 13 (dk_at dksX6_leaveLetters_3 8 rfl rfl)
theorem dX6_leaveLetters_83 : decode cX6_leaveLetters 83 = .ok (.bipush 39, 2) := dk_16 39 (dk_at dksX6_leaveLetters_3 11 rfl rfl)
theorem dX6_leaveLetters_85 : decode cX6_leaveLetters 85 = .ok (.iload_n 1, 1) := dk_27 (dk_at dksX6_leaveLetters_3 13 rfl rfl)
theorem dX6_leaveLetters_86 : decode cX6_leaveLetters 86 = .ok (.iadd, 1) := dk_96 (dk_at dksX6_leaveLetters_3 14 rfl rfl)
theorem dX6_leaveLetters_87 : decode cX6_leaveLetters 87 = .ok (.iaload, 1) := dk_46 (dk_at dksX6_leaveLetters_3 15 rfl rfl)
theorem dX6_leaveLetters_88 : decode cX6_leaveLetters 88 = .ok (.ireturn, 1) := dk_172 (dk_at dksX6_leaveLetters_3 16 rfl rfl)
abbrev cX6_send : ByteArray := prog_12_method_62_code
def yX6_send : MethodName := ⟨RX6, "send", "(II)I"⟩
def dkwX6_send_6 : List UInt8 := [79, 42, 180, 0, 114, 172]
abbrev dktX6_send_6 : List UInt8 := dkwX6_send_6 ++ []
def dkwX6_send_5 : List UInt8 := [96, 79, 42, 180, 0, 13, 4, 92, 46, 42, 180, 0, 114, 96, 79, 42, 180, 0, 13, 5, 92, 46, 29, 96]
abbrev dktX6_send_5 : List UInt8 := dkwX6_send_5 ++ dktX6_send_6
def dkwX6_send_4 : List UInt8 := [182, 0, 242, 42, 180, 0, 13, 16, 39, 27, 96, 3, 79, 42, 180, 0, 13, 16, 39, 28, 96, 92, 46, 29]
abbrev dktX6_send_4 : List UInt8 := dkwX6_send_4 ++ dktX6_send_5
def dkwX6_send_3 : List UInt8 := [180, 0, 13, 16, 39, 28, 96, 46, 29, 96, 16, 99, 164, 0, 9, 42, 6, 182, 0, 136, 172, 42]
abbrev dktX6_send_3 : List UInt8 := dkwX6_send_3 ++ dktX6_send_4
def dkwX6_send_2 : List UInt8 := [16, 39, 27, 96, 46, 62, 42, 42, 180, 0, 13, 27, 28, 182, 1, 11, 153, 0, 23, 29, 153, 0, 19, 42]
abbrev dktX6_send_2 : List UInt8 := dkwX6_send_2 ++ dktX6_send_3
def dkwX6_send_1 : List UInt8 := [154, 0, 9, 42, 4, 182, 0, 136, 172, 27, 28, 160, 0, 9, 42, 5, 182, 0, 136, 172, 42, 180, 0, 13]
abbrev dktX6_send_1 : List UInt8 := dkwX6_send_1 ++ dktX6_send_2
def dkwX6_send_0 : List UInt8 := [42, 3, 181, 0, 3, 42, 180, 0, 13, 27, 184, 0, 85, 153, 0, 14, 42, 180, 0, 13, 28, 184, 0, 85]
abbrev dktX6_send_0 : List UInt8 := dkwX6_send_0 ++ dktX6_send_1
theorem dksX6_send_0 : cX6_send.data.toList.drop 0 = dktX6_send_0 := by decide +kernel
theorem dksX6_send_1 : cX6_send.data.toList.drop 24 = dktX6_send_1 := dk_seg dksX6_send_0 24 rfl rfl
theorem dksX6_send_2 : cX6_send.data.toList.drop 48 = dktX6_send_2 := dk_seg dksX6_send_1 24 rfl rfl
theorem dksX6_send_3 : cX6_send.data.toList.drop 72 = dktX6_send_3 := dk_seg dksX6_send_2 24 rfl rfl
theorem dksX6_send_4 : cX6_send.data.toList.drop 94 = dktX6_send_4 := dk_seg dksX6_send_3 22 rfl rfl
theorem dksX6_send_5 : cX6_send.data.toList.drop 118 = dktX6_send_5 := dk_seg dksX6_send_4 24 rfl rfl
theorem dksX6_send_6 : cX6_send.data.toList.drop 142 = dktX6_send_6 := dk_seg dksX6_send_5 24 rfl rfl
theorem dX6_send_0 : decode cX6_send 0 = .ok (.aload_n 0, 1) := dk_42 (dk_at dksX6_send_0 0 rfl rfl)
theorem dX6_send_1 : decode cX6_send 1 = .ok (.iconst 0, 1) := dk_3 (dk_at dksX6_send_0 1 rfl rfl)
theorem dX6_send_2 : decode cX6_send 2 = .ok (.putfield 3, 3) := dk_181 0 3 (dk_at dksX6_send_0 2 rfl rfl)
theorem dX6_send_5 : decode cX6_send 5 = .ok (.aload_n 0, 1) := dk_42 (dk_at dksX6_send_0 5 rfl rfl)
theorem dX6_send_6 : decode cX6_send 6 = .ok (.getfield 13, 3) := dk_180 0 13 (dk_at dksX6_send_0 6 rfl rfl)
theorem dX6_send_9 : decode cX6_send 9 = .ok (.iload_n 1, 1) := dk_27 (dk_at dksX6_send_0 9 rfl rfl)
theorem dX6_send_10 : decode cX6_send 10 = .ok (.invokestatic 85, 3) := dk_184 0 85 (dk_at dksX6_send_0 10 rfl rfl)
theorem dX6_send_13 : decode cX6_send 13 = .ok (.ifCond .eq 14, 3) := dk_153 0 14 (dk_at dksX6_send_0 13 rfl rfl)
theorem dX6_send_16 : decode cX6_send 16 = .ok (.aload_n 0, 1) := dk_42 (dk_at dksX6_send_0 16 rfl rfl)
theorem dX6_send_17 : decode cX6_send 17 = .ok (.getfield 13, 3) := dk_180 0 13 (dk_at dksX6_send_0 17 rfl rfl)
theorem dX6_send_20 : decode cX6_send 20 = .ok (.iload_n 2, 1) := dk_28 (dk_at dksX6_send_0 20 rfl rfl)
theorem dX6_send_21 : decode cX6_send 21 = .ok (.invokestatic 85, 3) := dk_184 0 85 (dk_at dksX6_send_0 21 rfl rfl)
theorem dX6_send_24 : decode cX6_send 24 = .ok (.ifCond .ne 9, 3) := dk_154 0 9 (dk_at dksX6_send_1 0 rfl rfl)
theorem dX6_send_27 : decode cX6_send 27 = .ok (.aload_n 0, 1) := dk_42 (dk_at dksX6_send_1 3 rfl rfl)
theorem dX6_send_28 : decode cX6_send 28 = .ok (.iconst 1, 1) := dk_4 (dk_at dksX6_send_1 4 rfl rfl)
theorem dX6_send_29 : decode cX6_send 29 = .ok (.invokevirtual 136, 3) := dk_182 0 136 (dk_at dksX6_send_1 5 rfl rfl)
theorem dX6_send_32 : decode cX6_send 32 = .ok (.ireturn, 1) := dk_172 (dk_at dksX6_send_1 8 rfl rfl)
theorem dX6_send_33 : decode cX6_send 33 = .ok (.iload_n 1, 1) := dk_27 (dk_at dksX6_send_1 9 rfl rfl)
theorem dX6_send_34 : decode cX6_send 34 = .ok (.iload_n 2, 1) := dk_28 (dk_at dksX6_send_1 10 rfl rfl)
theorem dX6_send_35 : decode cX6_send 35 = .ok (.if_icmp .ne 9, 3) := dk_160 0 9 (dk_at dksX6_send_1 11 rfl rfl)
theorem dX6_send_38 : decode cX6_send 38 = .ok (.aload_n 0, 1) := dk_42 (dk_at dksX6_send_1 14 rfl rfl)
theorem dX6_send_39 : decode cX6_send 39 = .ok (.iconst 2, 1) := dk_5 (dk_at dksX6_send_1 15 rfl rfl)
theorem dX6_send_40 : decode cX6_send 40 = .ok (.invokevirtual 136, 3) := dk_182 0 136 (dk_at dksX6_send_1 16 rfl rfl)
theorem dX6_send_43 : decode cX6_send 43 = .ok (.ireturn, 1) := dk_172 (dk_at dksX6_send_1 19 rfl rfl)
theorem dX6_send_44 : decode cX6_send 44 = .ok (.aload_n 0, 1) := dk_42 (dk_at dksX6_send_1 20 rfl rfl)
theorem dX6_send_45 : decode cX6_send 45 = .ok (.getfield 13, 3) := dk_180 0 13 (dk_at dksX6_send_1 21 rfl rfl)
theorem dX6_send_48 : decode cX6_send 48 = .ok (.bipush 39, 2) := dk_16 39 (dk_at dksX6_send_2 0 rfl rfl)
theorem dX6_send_50 : decode cX6_send 50 = .ok (.iload_n 1, 1) := dk_27 (dk_at dksX6_send_2 2 rfl rfl)
theorem dX6_send_51 : decode cX6_send 51 = .ok (.iadd, 1) := dk_96 (dk_at dksX6_send_2 3 rfl rfl)
theorem dX6_send_52 : decode cX6_send 52 = .ok (.iaload, 1) := dk_46 (dk_at dksX6_send_2 4 rfl rfl)
theorem dX6_send_53 : decode cX6_send 53 = .ok (.istore_n 3, 1) := dk_62 (dk_at dksX6_send_2 5 rfl rfl)
theorem dX6_send_54 : decode cX6_send 54 = .ok (.aload_n 0, 1) := dk_42 (dk_at dksX6_send_2 6 rfl rfl)
theorem dX6_send_55 : decode cX6_send 55 = .ok (.aload_n 0, 1) := dk_42 (dk_at dksX6_send_2 7 rfl rfl)
theorem dX6_send_56 : decode cX6_send 56 = .ok (.getfield 13, 3) := dk_180 0 13 (dk_at dksX6_send_2 8 rfl rfl)
theorem dX6_send_59 : decode cX6_send 59 = .ok (.iload_n 1, 1) := dk_27 (dk_at dksX6_send_2 11 rfl rfl)
theorem dX6_send_60 : decode cX6_send 60 = .ok (.iload_n 2, 1) := dk_28 (dk_at dksX6_send_2 12 rfl rfl)
theorem dX6_send_61 : decode cX6_send 61 = .ok (.invokevirtual 267, 3) := dk_182 1 11 (dk_at dksX6_send_2 13 rfl rfl)
theorem dX6_send_64 : decode cX6_send 64 = .ok (.ifCond .eq 23, 3) := dk_153 0 23 (dk_at dksX6_send_2 16 rfl rfl)
theorem dX6_send_67 : decode cX6_send 67 = .ok (.iload_n 3, 1) := dk_29 (dk_at dksX6_send_2 19 rfl rfl)
theorem dX6_send_68 : decode cX6_send 68 = .ok (.ifCond .eq 19, 3) := dk_153 0 19 (dk_at dksX6_send_2 20 rfl rfl)
theorem dX6_send_71 : decode cX6_send 71 = .ok (.aload_n 0, 1) := dk_42 (dk_at dksX6_send_2 23 rfl rfl)
theorem dX6_send_72 : decode cX6_send 72 = .ok (.getfield 13, 3) := dk_180 0 13 (dk_at dksX6_send_3 0 rfl rfl)
theorem dX6_send_75 : decode cX6_send 75 = .ok (.bipush 39, 2) := dk_16 39 (dk_at dksX6_send_3 3 rfl rfl)
theorem dX6_send_77 : decode cX6_send 77 = .ok (.iload_n 2, 1) := dk_28 (dk_at dksX6_send_3 5 rfl rfl)
theorem dX6_send_78 : decode cX6_send 78 = .ok (.iadd, 1) := dk_96 (dk_at dksX6_send_3 6 rfl rfl)
theorem dX6_send_79 : decode cX6_send 79 = .ok (.iaload, 1) := dk_46 (dk_at dksX6_send_3 7 rfl rfl)
theorem dX6_send_80 : decode cX6_send 80 = .ok (.iload_n 3, 1) := dk_29 (dk_at dksX6_send_3 8 rfl rfl)
theorem dX6_send_81 : decode cX6_send 81 = .ok (.iadd, 1) := dk_96 (dk_at dksX6_send_3 9 rfl rfl)
theorem dX6_send_82 : decode cX6_send 82 = .ok (.bipush 99, 2) := dk_16 99 (dk_at dksX6_send_3 10 rfl rfl)
theorem dX6_send_84 : decode cX6_send 84 = .ok (.if_icmp .le 9, 3) := dk_164 0 9 (dk_at dksX6_send_3 12 rfl rfl)
theorem dX6_send_87 : decode cX6_send 87 = .ok (.aload_n 0, 1) := dk_42 (dk_at dksX6_send_3 15 rfl rfl)
theorem dX6_send_88 : decode cX6_send 88 = .ok (.iconst 3, 1) := dk_6 (dk_at dksX6_send_3 16 rfl rfl)
theorem dX6_send_89 : decode cX6_send 89 = .ok (.invokevirtual 136, 3) := dk_182 0 136 (dk_at dksX6_send_3 17 rfl rfl)
theorem dX6_send_92 : decode cX6_send 92 = .ok (.ireturn, 1) := dk_172 (dk_at dksX6_send_3 20 rfl rfl)
theorem dX6_send_93 : decode cX6_send 93 = .ok (.aload_n 0, 1) := dk_42 (dk_at dksX6_send_3 21 rfl rfl)
theorem dX6_send_94 : decode cX6_send 94 = .ok (.invokevirtual 242, 3) := dk_182 0 242 (dk_at dksX6_send_4 0 rfl rfl)
theorem dX6_send_97 : decode cX6_send 97 = .ok (.aload_n 0, 1) := dk_42 (dk_at dksX6_send_4 3 rfl rfl)
theorem dX6_send_98 : decode cX6_send 98 = .ok (.getfield 13, 3) := dk_180 0 13 (dk_at dksX6_send_4 4 rfl rfl)
theorem dX6_send_101 : decode cX6_send 101 = .ok (.bipush 39, 2) := dk_16 39 (dk_at dksX6_send_4 7 rfl rfl)
theorem dX6_send_103 : decode cX6_send 103 = .ok (.iload_n 1, 1) := dk_27 (dk_at dksX6_send_4 9 rfl rfl)
theorem dX6_send_104 : decode cX6_send 104 = .ok (.iadd, 1) := dk_96 (dk_at dksX6_send_4 10 rfl rfl)
theorem dX6_send_105 : decode cX6_send 105 = .ok (.iconst 0, 1) := dk_3 (dk_at dksX6_send_4 11 rfl rfl)
theorem dX6_send_106 : decode cX6_send 106 = .ok (.iastore, 1) := dk_79 (dk_at dksX6_send_4 12 rfl rfl)
theorem dX6_send_107 : decode cX6_send 107 = .ok (.aload_n 0, 1) := dk_42 (dk_at dksX6_send_4 13 rfl rfl)
theorem dX6_send_108 : decode cX6_send 108 = .ok (.getfield 13, 3) := dk_180 0 13 (dk_at dksX6_send_4 14 rfl rfl)
theorem dX6_send_111 : decode cX6_send 111 = .ok (.bipush 39, 2) := dk_16 39 (dk_at dksX6_send_4 17 rfl rfl)
theorem dX6_send_113 : decode cX6_send 113 = .ok (.iload_n 2, 1) := dk_28 (dk_at dksX6_send_4 19 rfl rfl)
theorem dX6_send_114 : decode cX6_send 114 = .ok (.iadd, 1) := dk_96 (dk_at dksX6_send_4 20 rfl rfl)
theorem dX6_send_115 : decode cX6_send 115 = .ok (.dup2, 1) := dk_92 (dk_at dksX6_send_4 21 rfl rfl)
theorem dX6_send_116 : decode cX6_send 116 = .ok (.iaload, 1) := dk_46 (dk_at dksX6_send_4 22 rfl rfl)
theorem dX6_send_117 : decode cX6_send 117 = .ok (.iload_n 3, 1) := dk_29 (dk_at dksX6_send_4 23 rfl rfl)
theorem dX6_send_118 : decode cX6_send 118 = .ok (.iadd, 1) := dk_96 (dk_at dksX6_send_5 0 rfl rfl)
theorem dX6_send_119 : decode cX6_send 119 = .ok (.iastore, 1) := dk_79 (dk_at dksX6_send_5 1 rfl rfl)
theorem dX6_send_120 : decode cX6_send 120 = .ok (.aload_n 0, 1) := dk_42 (dk_at dksX6_send_5 2 rfl rfl)
theorem dX6_send_121 : decode cX6_send 121 = .ok (.getfield 13, 3) := dk_180 0 13 (dk_at dksX6_send_5 3 rfl rfl)
theorem dX6_send_124 : decode cX6_send 124 = .ok (.iconst 1, 1) := dk_4 (dk_at dksX6_send_5 6 rfl rfl)
theorem dX6_send_125 : decode cX6_send 125 = .ok (.dup2, 1) := dk_92 (dk_at dksX6_send_5 7 rfl rfl)
theorem dX6_send_126 : decode cX6_send 126 = .ok (.iaload, 1) := dk_46 (dk_at dksX6_send_5 8 rfl rfl)
theorem dX6_send_127 : decode cX6_send 127 = .ok (.aload_n 0, 1) := dk_42 (dk_at dksX6_send_5 9 rfl rfl)
theorem dX6_send_128 : decode cX6_send 128 = .ok (.getfield 114, 3) := dk_180 0 114 (dk_at dksX6_send_5 10 rfl rfl)
theorem dX6_send_131 : decode cX6_send 131 = .ok (.iadd, 1) := dk_96 (dk_at dksX6_send_5 13 rfl rfl)
theorem dX6_send_132 : decode cX6_send 132 = .ok (.iastore, 1) := dk_79 (dk_at dksX6_send_5 14 rfl rfl)
theorem dX6_send_133 : decode cX6_send 133 = .ok (.aload_n 0, 1) := dk_42 (dk_at dksX6_send_5 15 rfl rfl)
theorem dX6_send_134 : decode cX6_send 134 = .ok (.getfield 13, 3) := dk_180 0 13 (dk_at dksX6_send_5 16 rfl rfl)
theorem dX6_send_137 : decode cX6_send 137 = .ok (.iconst 2, 1) := dk_5 (dk_at dksX6_send_5 19 rfl rfl)
theorem dX6_send_138 : decode cX6_send 138 = .ok (.dup2, 1) := dk_92 (dk_at dksX6_send_5 20 rfl rfl)
theorem dX6_send_139 : decode cX6_send 139 = .ok (.iaload, 1) := dk_46 (dk_at dksX6_send_5 21 rfl rfl)
theorem dX6_send_140 : decode cX6_send 140 = .ok (.iload_n 3, 1) := dk_29 (dk_at dksX6_send_5 22 rfl rfl)
theorem dX6_send_141 : decode cX6_send 141 = .ok (.iadd, 1) := dk_96 (dk_at dksX6_send_5 23 rfl rfl)
theorem dX6_send_142 : decode cX6_send 142 = .ok (.iastore, 1) := dk_79 (dk_at dksX6_send_6 0 rfl rfl)
theorem dX6_send_143 : decode cX6_send 143 = .ok (.aload_n 0, 1) := dk_42 (dk_at dksX6_send_6 1 rfl rfl)
theorem dX6_send_144 : decode cX6_send 144 = .ok (.getfield 114, 3) := dk_180 0 114 (dk_at dksX6_send_6 2 rfl rfl)
theorem dX6_send_147 : decode cX6_send 147 = .ok (.ireturn, 1) := dk_172 (dk_at dksX6_send_6 5 rfl rfl)
abbrev cX6_rides : ByteArray := prog_12_method_24_code
def yX6_rides : MethodName := ⟨RX6, "rides", "([III)Z"⟩
def dkwX6_rides_7 : List UInt8 := [4, 167, 0, 4, 3, 172]
abbrev dktX6_rides_7 : List UInt8 := dkwX6_rides_7 ++ []
def dkwX6_rides_6 : List UInt8 := [181, 0, 123, 42, 89, 180, 0, 114, 4, 96, 181, 0, 114, 167, 255, 123, 42, 180, 0, 123, 29, 160, 0, 7]
abbrev dktX6_rides_6 : List UInt8 := dkwX6_rides_6 ++ dktX6_rides_7
def dkwX6_rides_5 : List UInt8 := [42, 89, 180, 0, 117, 43, 42, 180, 0, 123, 21, 5, 184, 0, 110, 96, 181, 0, 117, 42, 21, 5]
abbrev dktX6_rides_5 : List UInt8 := dkwX6_rides_5 ++ dktX6_rides_6
def dkwX6_rides_4 : List UInt8 := [154, 0, 5, 3, 172, 42, 89, 180, 0, 120, 21, 4, 153, 0, 7, 3, 167, 0, 4, 4, 96, 181, 0, 120]
abbrev dktX6_rides_4 : List UInt8 := dkwX6_rides_4 ++ dktX6_rides_5
def dkwX6_rides_3 : List UInt8 := [167, 0, 12, 43, 16, 66, 42, 180, 0, 123, 96, 46, 54, 5, 43, 42, 180, 0, 123, 21, 5, 184, 0, 126]
abbrev dktX6_rides_3 : List UInt8 := dkwX6_rides_3 ++ dktX6_rides_4
def dkwX6_rides_2 : List UInt8 := [180, 0, 123, 96, 46, 184, 0, 126, 54, 4, 21, 4, 153, 0, 15, 43, 16, 54, 42, 180, 0, 123, 96, 46]
abbrev dktX6_rides_2 : List UInt8 := dkwX6_rides_2 ++ dktX6_rides_3
def dkwX6_rides_1 : List UInt8 := [29, 159, 0, 131, 42, 180, 0, 114, 16, 24, 162, 0, 122, 43, 42, 180, 0, 123, 43, 16, 54, 42]
abbrev dktX6_rides_1 : List UInt8 := dkwX6_rides_1 ++ dktX6_rides_2
def dkwX6_rides_0 : List UInt8 := [42, 3, 181, 0, 114, 42, 3, 181, 0, 117, 42, 3, 181, 0, 120, 42, 28, 181, 0, 123, 42, 180, 0, 123]
abbrev dktX6_rides_0 : List UInt8 := dkwX6_rides_0 ++ dktX6_rides_1
theorem dksX6_rides_0 : cX6_rides.data.toList.drop 0 = dktX6_rides_0 := by decide +kernel
theorem dksX6_rides_1 : cX6_rides.data.toList.drop 24 = dktX6_rides_1 := dk_seg dksX6_rides_0 24 rfl rfl
theorem dksX6_rides_2 : cX6_rides.data.toList.drop 46 = dktX6_rides_2 := dk_seg dksX6_rides_1 22 rfl rfl
theorem dksX6_rides_3 : cX6_rides.data.toList.drop 70 = dktX6_rides_3 := dk_seg dksX6_rides_2 24 rfl rfl
theorem dksX6_rides_4 : cX6_rides.data.toList.drop 94 = dktX6_rides_4 := dk_seg dksX6_rides_3 24 rfl rfl
theorem dksX6_rides_5 : cX6_rides.data.toList.drop 118 = dktX6_rides_5 := dk_seg dksX6_rides_4 24 rfl rfl
theorem dksX6_rides_6 : cX6_rides.data.toList.drop 140 = dktX6_rides_6 := dk_seg dksX6_rides_5 22 rfl rfl
theorem dksX6_rides_7 : cX6_rides.data.toList.drop 164 = dktX6_rides_7 := dk_seg dksX6_rides_6 24 rfl rfl
theorem dX6_rides_0 : decode cX6_rides 0 = .ok (.aload_n 0, 1) := dk_42 (dk_at dksX6_rides_0 0 rfl rfl)
theorem dX6_rides_1 : decode cX6_rides 1 = .ok (.iconst 0, 1) := dk_3 (dk_at dksX6_rides_0 1 rfl rfl)
theorem dX6_rides_2 : decode cX6_rides 2 = .ok (.putfield 114, 3) := dk_181 0 114 (dk_at dksX6_rides_0 2 rfl rfl)
theorem dX6_rides_5 : decode cX6_rides 5 = .ok (.aload_n 0, 1) := dk_42 (dk_at dksX6_rides_0 5 rfl rfl)
theorem dX6_rides_6 : decode cX6_rides 6 = .ok (.iconst 0, 1) := dk_3 (dk_at dksX6_rides_0 6 rfl rfl)
theorem dX6_rides_7 : decode cX6_rides 7 = .ok (.putfield 117, 3) := dk_181 0 117 (dk_at dksX6_rides_0 7 rfl rfl)
theorem dX6_rides_10 : decode cX6_rides 10 = .ok (.aload_n 0, 1) := dk_42 (dk_at dksX6_rides_0 10 rfl rfl)
theorem dX6_rides_11 : decode cX6_rides 11 = .ok (.iconst 0, 1) := dk_3 (dk_at dksX6_rides_0 11 rfl rfl)
theorem dX6_rides_12 : decode cX6_rides 12 = .ok (.putfield 120, 3) := dk_181 0 120 (dk_at dksX6_rides_0 12 rfl rfl)
theorem dX6_rides_15 : decode cX6_rides 15 = .ok (.aload_n 0, 1) := dk_42 (dk_at dksX6_rides_0 15 rfl rfl)
theorem dX6_rides_16 : decode cX6_rides 16 = .ok (.iload_n 2, 1) := dk_28 (dk_at dksX6_rides_0 16 rfl rfl)
theorem dX6_rides_17 : decode cX6_rides 17 = .ok (.putfield 123, 3) := dk_181 0 123 (dk_at dksX6_rides_0 17 rfl rfl)
theorem dX6_rides_20 : decode cX6_rides 20 = .ok (.aload_n 0, 1) := dk_42 (dk_at dksX6_rides_0 20 rfl rfl)
theorem dX6_rides_21 : decode cX6_rides 21 = .ok (.getfield 123, 3) := dk_180 0 123 (dk_at dksX6_rides_0 21 rfl rfl)
theorem dX6_rides_24 : decode cX6_rides 24 = .ok (.iload_n 3, 1) := dk_29 (dk_at dksX6_rides_1 0 rfl rfl)
theorem dX6_rides_25 : decode cX6_rides 25 = .ok (.if_icmp .eq 131, 3) := dk_159 0 131 (dk_at dksX6_rides_1 1 rfl rfl)
theorem dX6_rides_28 : decode cX6_rides 28 = .ok (.aload_n 0, 1) := dk_42 (dk_at dksX6_rides_1 4 rfl rfl)
theorem dX6_rides_29 : decode cX6_rides 29 = .ok (.getfield 114, 3) := dk_180 0 114 (dk_at dksX6_rides_1 5 rfl rfl)
theorem dX6_rides_32 : decode cX6_rides 32 = .ok (.bipush 24, 2) := dk_16 24 (dk_at dksX6_rides_1 8 rfl rfl)
theorem dX6_rides_34 : decode cX6_rides 34 = .ok (.if_icmp .ge 122, 3) := dk_162 0 122 (dk_at dksX6_rides_1 10 rfl rfl)
theorem dX6_rides_37 : decode cX6_rides 37 = .ok (.aload_n 1, 1) := dk_43 (dk_at dksX6_rides_1 13 rfl rfl)
theorem dX6_rides_38 : decode cX6_rides 38 = .ok (.aload_n 0, 1) := dk_42 (dk_at dksX6_rides_1 14 rfl rfl)
theorem dX6_rides_39 : decode cX6_rides 39 = .ok (.getfield 123, 3) := dk_180 0 123 (dk_at dksX6_rides_1 15 rfl rfl)
theorem dX6_rides_42 : decode cX6_rides 42 = .ok (.aload_n 1, 1) := dk_43 (dk_at dksX6_rides_1 18 rfl rfl)
theorem dX6_rides_43 : decode cX6_rides 43 = .ok (.bipush 54, 2) := dk_16 54 (dk_at dksX6_rides_1 19 rfl rfl)
theorem dX6_rides_45 : decode cX6_rides 45 = .ok (.aload_n 0, 1) := dk_42 (dk_at dksX6_rides_1 21 rfl rfl)
theorem dX6_rides_46 : decode cX6_rides 46 = .ok (.getfield 123, 3) := dk_180 0 123 (dk_at dksX6_rides_2 0 rfl rfl)
theorem dX6_rides_49 : decode cX6_rides 49 = .ok (.iadd, 1) := dk_96 (dk_at dksX6_rides_2 3 rfl rfl)
theorem dX6_rides_50 : decode cX6_rides 50 = .ok (.iaload, 1) := dk_46 (dk_at dksX6_rides_2 4 rfl rfl)
theorem dX6_rides_51 : decode cX6_rides 51 = .ok (.invokestatic 126, 3) := dk_184 0 126 (dk_at dksX6_rides_2 5 rfl rfl)
theorem dX6_rides_54 : decode cX6_rides 54 = .ok (.istore 4, 2) := dk_54 4 (dk_at dksX6_rides_2 8 rfl rfl)
theorem dX6_rides_56 : decode cX6_rides 56 = .ok (.iload 4, 2) := dk_21 4 (dk_at dksX6_rides_2 10 rfl rfl)
theorem dX6_rides_58 : decode cX6_rides 58 = .ok (.ifCond .eq 15, 3) := dk_153 0 15 (dk_at dksX6_rides_2 12 rfl rfl)
theorem dX6_rides_61 : decode cX6_rides 61 = .ok (.aload_n 1, 1) := dk_43 (dk_at dksX6_rides_2 15 rfl rfl)
theorem dX6_rides_62 : decode cX6_rides 62 = .ok (.bipush 54, 2) := dk_16 54 (dk_at dksX6_rides_2 16 rfl rfl)
theorem dX6_rides_64 : decode cX6_rides 64 = .ok (.aload_n 0, 1) := dk_42 (dk_at dksX6_rides_2 18 rfl rfl)
theorem dX6_rides_65 : decode cX6_rides 65 = .ok (.getfield 123, 3) := dk_180 0 123 (dk_at dksX6_rides_2 19 rfl rfl)
theorem dX6_rides_68 : decode cX6_rides 68 = .ok (.iadd, 1) := dk_96 (dk_at dksX6_rides_2 22 rfl rfl)
theorem dX6_rides_69 : decode cX6_rides 69 = .ok (.iaload, 1) := dk_46 (dk_at dksX6_rides_2 23 rfl rfl)
theorem dX6_rides_70 : decode cX6_rides 70 = .ok (.goto 12, 3) := dk_167 0 12 (dk_at dksX6_rides_3 0 rfl rfl)
theorem dX6_rides_73 : decode cX6_rides 73 = .ok (.aload_n 1, 1) := dk_43 (dk_at dksX6_rides_3 3 rfl rfl)
theorem dX6_rides_74 : decode cX6_rides 74 = .ok (.bipush 66, 2) := dk_16 66 (dk_at dksX6_rides_3 4 rfl rfl)
theorem dX6_rides_76 : decode cX6_rides 76 = .ok (.aload_n 0, 1) := dk_42 (dk_at dksX6_rides_3 6 rfl rfl)
theorem dX6_rides_77 : decode cX6_rides 77 = .ok (.getfield 123, 3) := dk_180 0 123 (dk_at dksX6_rides_3 7 rfl rfl)
theorem dX6_rides_80 : decode cX6_rides 80 = .ok (.iadd, 1) := dk_96 (dk_at dksX6_rides_3 10 rfl rfl)
theorem dX6_rides_81 : decode cX6_rides 81 = .ok (.iaload, 1) := dk_46 (dk_at dksX6_rides_3 11 rfl rfl)
theorem dX6_rides_82 : decode cX6_rides 82 = .ok (.istore 5, 2) := dk_54 5 (dk_at dksX6_rides_3 12 rfl rfl)
theorem dX6_rides_84 : decode cX6_rides 84 = .ok (.aload_n 1, 1) := dk_43 (dk_at dksX6_rides_3 14 rfl rfl)
theorem dX6_rides_85 : decode cX6_rides 85 = .ok (.aload_n 0, 1) := dk_42 (dk_at dksX6_rides_3 15 rfl rfl)
theorem dX6_rides_86 : decode cX6_rides 86 = .ok (.getfield 123, 3) := dk_180 0 123 (dk_at dksX6_rides_3 16 rfl rfl)
theorem dX6_rides_89 : decode cX6_rides 89 = .ok (.iload 5, 2) := dk_21 5 (dk_at dksX6_rides_3 19 rfl rfl)
theorem dX6_rides_91 : decode cX6_rides 91 = .ok (.invokestatic 126, 3) := dk_184 0 126 (dk_at dksX6_rides_3 21 rfl rfl)
theorem dX6_rides_94 : decode cX6_rides 94 = .ok (.ifCond .ne 5, 3) := dk_154 0 5 (dk_at dksX6_rides_4 0 rfl rfl)
theorem dX6_rides_97 : decode cX6_rides 97 = .ok (.iconst 0, 1) := dk_3 (dk_at dksX6_rides_4 3 rfl rfl)
theorem dX6_rides_98 : decode cX6_rides 98 = .ok (.ireturn, 1) := dk_172 (dk_at dksX6_rides_4 4 rfl rfl)
theorem dX6_rides_99 : decode cX6_rides 99 = .ok (.aload_n 0, 1) := dk_42 (dk_at dksX6_rides_4 5 rfl rfl)
theorem dX6_rides_100 : decode cX6_rides 100 = .ok (.dup, 1) := dk_89 (dk_at dksX6_rides_4 6 rfl rfl)
theorem dX6_rides_101 : decode cX6_rides 101 = .ok (.getfield 120, 3) := dk_180 0 120 (dk_at dksX6_rides_4 7 rfl rfl)
theorem dX6_rides_104 : decode cX6_rides 104 = .ok (.iload 4, 2) := dk_21 4 (dk_at dksX6_rides_4 10 rfl rfl)
theorem dX6_rides_106 : decode cX6_rides 106 = .ok (.ifCond .eq 7, 3) := dk_153 0 7 (dk_at dksX6_rides_4 12 rfl rfl)
theorem dX6_rides_109 : decode cX6_rides 109 = .ok (.iconst 0, 1) := dk_3 (dk_at dksX6_rides_4 15 rfl rfl)
theorem dX6_rides_110 : decode cX6_rides 110 = .ok (.goto 4, 3) := dk_167 0 4 (dk_at dksX6_rides_4 16 rfl rfl)
theorem dX6_rides_113 : decode cX6_rides 113 = .ok (.iconst 1, 1) := dk_4 (dk_at dksX6_rides_4 19 rfl rfl)
theorem dX6_rides_114 : decode cX6_rides 114 = .ok (.iadd, 1) := dk_96 (dk_at dksX6_rides_4 20 rfl rfl)
theorem dX6_rides_115 : decode cX6_rides 115 = .ok (.putfield 120, 3) := dk_181 0 120 (dk_at dksX6_rides_4 21 rfl rfl)
theorem dX6_rides_118 : decode cX6_rides 118 = .ok (.aload_n 0, 1) := dk_42 (dk_at dksX6_rides_5 0 rfl rfl)
theorem dX6_rides_119 : decode cX6_rides 119 = .ok (.dup, 1) := dk_89 (dk_at dksX6_rides_5 1 rfl rfl)
theorem dX6_rides_120 : decode cX6_rides 120 = .ok (.getfield 117, 3) := dk_180 0 117 (dk_at dksX6_rides_5 2 rfl rfl)
theorem dX6_rides_123 : decode cX6_rides 123 = .ok (.aload_n 1, 1) := dk_43 (dk_at dksX6_rides_5 5 rfl rfl)
theorem dX6_rides_124 : decode cX6_rides 124 = .ok (.aload_n 0, 1) := dk_42 (dk_at dksX6_rides_5 6 rfl rfl)
theorem dX6_rides_125 : decode cX6_rides 125 = .ok (.getfield 123, 3) := dk_180 0 123 (dk_at dksX6_rides_5 7 rfl rfl)
theorem dX6_rides_128 : decode cX6_rides 128 = .ok (.iload 5, 2) := dk_21 5 (dk_at dksX6_rides_5 10 rfl rfl)
theorem dX6_rides_130 : decode cX6_rides 130 = .ok (.invokestatic 110, 3) := dk_184 0 110 (dk_at dksX6_rides_5 12 rfl rfl)
theorem dX6_rides_133 : decode cX6_rides 133 = .ok (.iadd, 1) := dk_96 (dk_at dksX6_rides_5 15 rfl rfl)
theorem dX6_rides_134 : decode cX6_rides 134 = .ok (.putfield 117, 3) := dk_181 0 117 (dk_at dksX6_rides_5 16 rfl rfl)
theorem dX6_rides_137 : decode cX6_rides 137 = .ok (.aload_n 0, 1) := dk_42 (dk_at dksX6_rides_5 19 rfl rfl)
theorem dX6_rides_138 : decode cX6_rides 138 = .ok (.iload 5, 2) := dk_21 5 (dk_at dksX6_rides_5 20 rfl rfl)
theorem dX6_rides_140 : decode cX6_rides 140 = .ok (.putfield 123, 3) := dk_181 0 123 (dk_at dksX6_rides_6 0 rfl rfl)
theorem dX6_rides_143 : decode cX6_rides 143 = .ok (.aload_n 0, 1) := dk_42 (dk_at dksX6_rides_6 3 rfl rfl)
theorem dX6_rides_144 : decode cX6_rides 144 = .ok (.dup, 1) := dk_89 (dk_at dksX6_rides_6 4 rfl rfl)
theorem dX6_rides_145 : decode cX6_rides 145 = .ok (.getfield 114, 3) := dk_180 0 114 (dk_at dksX6_rides_6 5 rfl rfl)
theorem dX6_rides_148 : decode cX6_rides 148 = .ok (.iconst 1, 1) := dk_4 (dk_at dksX6_rides_6 8 rfl rfl)
theorem dX6_rides_149 : decode cX6_rides 149 = .ok (.iadd, 1) := dk_96 (dk_at dksX6_rides_6 9 rfl rfl)
theorem dX6_rides_150 : decode cX6_rides 150 = .ok (.putfield 114, 3) := dk_181 0 114 (dk_at dksX6_rides_6 10 rfl rfl)
theorem dX6_rides_153 : decode cX6_rides 153 = .ok (.goto (-133), 3) := dk_167 255 123 (dk_at dksX6_rides_6 13 rfl rfl)
theorem dX6_rides_156 : decode cX6_rides 156 = .ok (.aload_n 0, 1) := dk_42 (dk_at dksX6_rides_6 16 rfl rfl)
theorem dX6_rides_157 : decode cX6_rides 157 = .ok (.getfield 123, 3) := dk_180 0 123 (dk_at dksX6_rides_6 17 rfl rfl)
theorem dX6_rides_160 : decode cX6_rides 160 = .ok (.iload_n 3, 1) := dk_29 (dk_at dksX6_rides_6 20 rfl rfl)
theorem dX6_rides_161 : decode cX6_rides 161 = .ok (.if_icmp .ne 7, 3) := dk_160 0 7 (dk_at dksX6_rides_6 21 rfl rfl)
theorem dX6_rides_164 : decode cX6_rides 164 = .ok (.iconst 1, 1) := dk_4 (dk_at dksX6_rides_7 0 rfl rfl)
theorem dX6_rides_165 : decode cX6_rides 165 = .ok (.goto 4, 3) := dk_167 0 4 (dk_at dksX6_rides_7 1 rfl rfl)
theorem dX6_rides_168 : decode cX6_rides 168 = .ok (.iconst 0, 1) := dk_3 (dk_at dksX6_rides_7 4 rfl rfl)
theorem dX6_rides_169 : decode cX6_rides 169 = .ok (.ireturn, 1) := dk_172 (dk_at dksX6_rides_7 5 rfl rfl)
abbrev cX6_canRide : ByteArray := prog_12_method_23_code
def yX6_canRide : MethodName := ⟨RX6, "canRide", "([III)Z"⟩
def dkwX6_canRide_1 : List UInt8 := [42, 3, 46, 163, 0, 7, 4, 167, 0, 4, 3, 172]
abbrev dktX6_canRide_1 : List UInt8 := dkwX6_canRide_1 ++ []
def dkwX6_canRide_0 : List UInt8 := [42, 28, 184, 0, 85, 153, 0, 29, 42, 16, 27, 28, 96, 46, 4, 160, 0, 19, 42, 27, 28, 184, 0, 110]
abbrev dktX6_canRide_0 : List UInt8 := dkwX6_canRide_0 ++ dktX6_canRide_1
theorem dksX6_canRide_0 : cX6_canRide.data.toList.drop 0 = dktX6_canRide_0 := by decide +kernel
theorem dksX6_canRide_1 : cX6_canRide.data.toList.drop 24 = dktX6_canRide_1 := dk_seg dksX6_canRide_0 24 rfl rfl
theorem dX6_canRide_0 : decode cX6_canRide 0 = .ok (.aload_n 0, 1) := dk_42 (dk_at dksX6_canRide_0 0 rfl rfl)
theorem dX6_canRide_1 : decode cX6_canRide 1 = .ok (.iload_n 2, 1) := dk_28 (dk_at dksX6_canRide_0 1 rfl rfl)
theorem dX6_canRide_2 : decode cX6_canRide 2 = .ok (.invokestatic 85, 3) := dk_184 0 85 (dk_at dksX6_canRide_0 2 rfl rfl)
theorem dX6_canRide_5 : decode cX6_canRide 5 = .ok (.ifCond .eq 29, 3) := dk_153 0 29 (dk_at dksX6_canRide_0 5 rfl rfl)
theorem dX6_canRide_8 : decode cX6_canRide 8 = .ok (.aload_n 0, 1) := dk_42 (dk_at dksX6_canRide_0 8 rfl rfl)
theorem dX6_canRide_9 : decode cX6_canRide 9 = .ok (.bipush 27, 2) := dk_16 27 (dk_at dksX6_canRide_0 9 rfl rfl)
theorem dX6_canRide_11 : decode cX6_canRide 11 = .ok (.iload_n 2, 1) := dk_28 (dk_at dksX6_canRide_0 11 rfl rfl)
theorem dX6_canRide_12 : decode cX6_canRide 12 = .ok (.iadd, 1) := dk_96 (dk_at dksX6_canRide_0 12 rfl rfl)
theorem dX6_canRide_13 : decode cX6_canRide 13 = .ok (.iaload, 1) := dk_46 (dk_at dksX6_canRide_0 13 rfl rfl)
theorem dX6_canRide_14 : decode cX6_canRide 14 = .ok (.iconst 1, 1) := dk_4 (dk_at dksX6_canRide_0 14 rfl rfl)
theorem dX6_canRide_15 : decode cX6_canRide 15 = .ok (.if_icmp .ne 19, 3) := dk_160 0 19 (dk_at dksX6_canRide_0 15 rfl rfl)
theorem dX6_canRide_18 : decode cX6_canRide 18 = .ok (.aload_n 0, 1) := dk_42 (dk_at dksX6_canRide_0 18 rfl rfl)
theorem dX6_canRide_19 : decode cX6_canRide 19 = .ok (.iload_n 1, 1) := dk_27 (dk_at dksX6_canRide_0 19 rfl rfl)
theorem dX6_canRide_20 : decode cX6_canRide 20 = .ok (.iload_n 2, 1) := dk_28 (dk_at dksX6_canRide_0 20 rfl rfl)
theorem dX6_canRide_21 : decode cX6_canRide 21 = .ok (.invokestatic 110, 3) := dk_184 0 110 (dk_at dksX6_canRide_0 21 rfl rfl)
theorem dX6_canRide_24 : decode cX6_canRide 24 = .ok (.aload_n 0, 1) := dk_42 (dk_at dksX6_canRide_1 0 rfl rfl)
theorem dX6_canRide_25 : decode cX6_canRide 25 = .ok (.iconst 0, 1) := dk_3 (dk_at dksX6_canRide_1 1 rfl rfl)
theorem dX6_canRide_26 : decode cX6_canRide 26 = .ok (.iaload, 1) := dk_46 (dk_at dksX6_canRide_1 2 rfl rfl)
theorem dX6_canRide_27 : decode cX6_canRide 27 = .ok (.if_icmp .gt 7, 3) := dk_163 0 7 (dk_at dksX6_canRide_1 3 rfl rfl)
theorem dX6_canRide_30 : decode cX6_canRide 30 = .ok (.iconst 1, 1) := dk_4 (dk_at dksX6_canRide_1 6 rfl rfl)
theorem dX6_canRide_31 : decode cX6_canRide 31 = .ok (.goto 4, 3) := dk_167 0 4 (dk_at dksX6_canRide_1 7 rfl rfl)
theorem dX6_canRide_34 : decode cX6_canRide 34 = .ok (.iconst 0, 1) := dk_3 (dk_at dksX6_canRide_1 10 rfl rfl)
theorem dX6_canRide_35 : decode cX6_canRide 35 = .ok (.ireturn, 1) := dk_172 (dk_at dksX6_canRide_1 11 rfl rfl)
abbrev cX6_stage : ByteArray := prog_12_method_22_code
def yX6_stage : MethodName := ⟨RX6, "stage", "([III)I"⟩
def dkwX6_stage_0 : List UInt8 := [42, 16, 15, 27, 96, 46, 42, 16, 15, 28, 96, 46, 100, 184, 0, 105, 172]
abbrev dktX6_stage_0 : List UInt8 := dkwX6_stage_0 ++ []
theorem dksX6_stage_0 : cX6_stage.data.toList.drop 0 = dktX6_stage_0 := by decide +kernel
theorem dX6_stage_0 : decode cX6_stage 0 = .ok (.aload_n 0, 1) := dk_42 (dk_at dksX6_stage_0 0 rfl rfl)
theorem dX6_stage_1 : decode cX6_stage 1 = .ok (.bipush 15, 2) := dk_16 15 (dk_at dksX6_stage_0 1 rfl rfl)
theorem dX6_stage_3 : decode cX6_stage 3 = .ok (.iload_n 1, 1) := dk_27 (dk_at dksX6_stage_0 3 rfl rfl)
theorem dX6_stage_4 : decode cX6_stage 4 = .ok (.iadd, 1) := dk_96 (dk_at dksX6_stage_0 4 rfl rfl)
theorem dX6_stage_5 : decode cX6_stage 5 = .ok (.iaload, 1) := dk_46 (dk_at dksX6_stage_0 5 rfl rfl)
theorem dX6_stage_6 : decode cX6_stage 6 = .ok (.aload_n 0, 1) := dk_42 (dk_at dksX6_stage_0 6 rfl rfl)
theorem dX6_stage_7 : decode cX6_stage 7 = .ok (.bipush 15, 2) := dk_16 15 (dk_at dksX6_stage_0 7 rfl rfl)
theorem dX6_stage_9 : decode cX6_stage 9 = .ok (.iload_n 2, 1) := dk_28 (dk_at dksX6_stage_0 9 rfl rfl)
theorem dX6_stage_10 : decode cX6_stage 10 = .ok (.iadd, 1) := dk_96 (dk_at dksX6_stage_0 10 rfl rfl)
theorem dX6_stage_11 : decode cX6_stage 11 = .ok (.iaload, 1) := dk_46 (dk_at dksX6_stage_0 11 rfl rfl)
theorem dX6_stage_12 : decode cX6_stage 12 = .ok (.isub, 1) := dk_100 (dk_at dksX6_stage_0 12 rfl rfl)
theorem dX6_stage_13 : decode cX6_stage 13 = .ok (.invokestatic 105, 3) := dk_184 0 105 (dk_at dksX6_stage_0 13 rfl rfl)
theorem dX6_stage_16 : decode cX6_stage 16 = .ok (.ireturn, 1) := dk_172 (dk_at dksX6_stage_0 16 rfl rfl)
abbrev cX6_restore : ByteArray := prog_12_method_63_code
def yX6_restore : MethodName := ⟨RX6, "restore", "()I"⟩
def dkwX6_restore_1 : List UInt8 := [180, 0, 17, 42, 180, 0, 13, 184, 0, 55, 42, 180, 0, 13, 184, 0, 71, 172]
abbrev dktX6_restore_1 : List UInt8 := dkwX6_restore_1 ++ []
def dkwX6_restore_0 : List UInt8 := [42, 3, 181, 0, 3, 42, 180, 1, 14, 154, 0, 9, 42, 4, 182, 0, 136, 172, 42, 182, 0, 242, 42]
abbrev dktX6_restore_0 : List UInt8 := dkwX6_restore_0 ++ dktX6_restore_1
theorem dksX6_restore_0 : cX6_restore.data.toList.drop 0 = dktX6_restore_0 := by decide +kernel
theorem dksX6_restore_1 : cX6_restore.data.toList.drop 23 = dktX6_restore_1 := dk_seg dksX6_restore_0 23 rfl rfl
theorem dX6_restore_0 : decode cX6_restore 0 = .ok (.aload_n 0, 1) := dk_42 (dk_at dksX6_restore_0 0 rfl rfl)
theorem dX6_restore_1 : decode cX6_restore 1 = .ok (.iconst 0, 1) := dk_3 (dk_at dksX6_restore_0 1 rfl rfl)
theorem dX6_restore_2 : decode cX6_restore 2 = .ok (.putfield 3, 3) := dk_181 0 3 (dk_at dksX6_restore_0 2 rfl rfl)
theorem dX6_restore_5 : decode cX6_restore 5 = .ok (.aload_n 0, 1) := dk_42 (dk_at dksX6_restore_0 5 rfl rfl)
theorem dX6_restore_6 : decode cX6_restore 6 = .ok (.getfield 270, 3) := dk_180 1 14 (dk_at dksX6_restore_0 6 rfl rfl)
theorem dX6_restore_9 : decode cX6_restore 9 = .ok (.ifCond .ne 9, 3) := dk_154 0 9 (dk_at dksX6_restore_0 9 rfl rfl)
theorem dX6_restore_12 : decode cX6_restore 12 = .ok (.aload_n 0, 1) := dk_42 (dk_at dksX6_restore_0 12 rfl rfl)
theorem dX6_restore_13 : decode cX6_restore 13 = .ok (.iconst 1, 1) := dk_4 (dk_at dksX6_restore_0 13 rfl rfl)
theorem dX6_restore_14 : decode cX6_restore 14 = .ok (.invokevirtual 136, 3) := dk_182 0 136 (dk_at dksX6_restore_0 14 rfl rfl)
theorem dX6_restore_17 : decode cX6_restore 17 = .ok (.ireturn, 1) := dk_172 (dk_at dksX6_restore_0 17 rfl rfl)
theorem dX6_restore_18 : decode cX6_restore 18 = .ok (.aload_n 0, 1) := dk_42 (dk_at dksX6_restore_0 18 rfl rfl)
theorem dX6_restore_19 : decode cX6_restore 19 = .ok (.invokevirtual 242, 3) := dk_182 0 242 (dk_at dksX6_restore_0 19 rfl rfl)
theorem dX6_restore_22 : decode cX6_restore 22 = .ok (.aload_n 0, 1) := dk_42 (dk_at dksX6_restore_0 22 rfl rfl)
theorem dX6_restore_23 : decode cX6_restore 23 = .ok (.getfield 17, 3) := dk_180 0 17 (dk_at dksX6_restore_1 0 rfl rfl)
theorem dX6_restore_26 : decode cX6_restore 26 = .ok (.aload_n 0, 1) := dk_42 (dk_at dksX6_restore_1 3 rfl rfl)
theorem dX6_restore_27 : decode cX6_restore 27 = .ok (.getfield 13, 3) := dk_180 0 13 (dk_at dksX6_restore_1 4 rfl rfl)
theorem dX6_restore_30 : decode cX6_restore 30 = .ok (.invokestatic 55, 3) := dk_184 0 55 (dk_at dksX6_restore_1 7 rfl rfl)
theorem dX6_restore_33 : decode cX6_restore 33 = .ok (.aload_n 0, 1) := dk_42 (dk_at dksX6_restore_1 10 rfl rfl)
theorem dX6_restore_34 : decode cX6_restore 34 = .ok (.getfield 13, 3) := dk_180 0 13 (dk_at dksX6_restore_1 11 rfl rfl)
theorem dX6_restore_37 : decode cX6_restore 37 = .ok (.invokestatic 71, 3) := dk_184 0 71 (dk_at dksX6_restore_1 14 rfl rfl)
theorem dX6_restore_40 : decode cX6_restore 40 = .ok (.ireturn, 1) := dk_172 (dk_at dksX6_restore_1 17 rfl rfl)
abbrev cX6_undo : ByteArray := prog_12_method_64_code
def yX6_undo : MethodName := ⟨RX6, "undo", "()I"⟩
def dkwX6_undo_2 : List UInt8 := [172]
abbrev dktX6_undo_2 : List UInt8 := dkwX6_undo_2 ++ []
def dkwX6_undo_1 : List UInt8 := [100, 181, 0, 52, 42, 180, 0, 31, 42, 180, 0, 52, 50, 42, 180, 0, 13, 184, 0, 55, 42, 180, 0, 52]
abbrev dktX6_undo_1 : List UInt8 := dkwX6_undo_1 ++ dktX6_undo_2
def dkwX6_undo_0 : List UInt8 := [42, 3, 181, 0, 3, 42, 180, 0, 52, 154, 0, 9, 42, 4, 182, 0, 136, 172, 42, 89, 180, 0, 52, 4]
abbrev dktX6_undo_0 : List UInt8 := dkwX6_undo_0 ++ dktX6_undo_1
theorem dksX6_undo_0 : cX6_undo.data.toList.drop 0 = dktX6_undo_0 := by decide +kernel
theorem dksX6_undo_1 : cX6_undo.data.toList.drop 24 = dktX6_undo_1 := dk_seg dksX6_undo_0 24 rfl rfl
theorem dksX6_undo_2 : cX6_undo.data.toList.drop 48 = dktX6_undo_2 := dk_seg dksX6_undo_1 24 rfl rfl
theorem dX6_undo_0 : decode cX6_undo 0 = .ok (.aload_n 0, 1) := dk_42 (dk_at dksX6_undo_0 0 rfl rfl)
theorem dX6_undo_1 : decode cX6_undo 1 = .ok (.iconst 0, 1) := dk_3 (dk_at dksX6_undo_0 1 rfl rfl)
theorem dX6_undo_2 : decode cX6_undo 2 = .ok (.putfield 3, 3) := dk_181 0 3 (dk_at dksX6_undo_0 2 rfl rfl)
theorem dX6_undo_5 : decode cX6_undo 5 = .ok (.aload_n 0, 1) := dk_42 (dk_at dksX6_undo_0 5 rfl rfl)
theorem dX6_undo_6 : decode cX6_undo 6 = .ok (.getfield 52, 3) := dk_180 0 52 (dk_at dksX6_undo_0 6 rfl rfl)
theorem dX6_undo_9 : decode cX6_undo 9 = .ok (.ifCond .ne 9, 3) := dk_154 0 9 (dk_at dksX6_undo_0 9 rfl rfl)
theorem dX6_undo_12 : decode cX6_undo 12 = .ok (.aload_n 0, 1) := dk_42 (dk_at dksX6_undo_0 12 rfl rfl)
theorem dX6_undo_13 : decode cX6_undo 13 = .ok (.iconst 1, 1) := dk_4 (dk_at dksX6_undo_0 13 rfl rfl)
theorem dX6_undo_14 : decode cX6_undo 14 = .ok (.invokevirtual 136, 3) := dk_182 0 136 (dk_at dksX6_undo_0 14 rfl rfl)
theorem dX6_undo_17 : decode cX6_undo 17 = .ok (.ireturn, 1) := dk_172 (dk_at dksX6_undo_0 17 rfl rfl)
theorem dX6_undo_18 : decode cX6_undo 18 = .ok (.aload_n 0, 1) := dk_42 (dk_at dksX6_undo_0 18 rfl rfl)
theorem dX6_undo_19 : decode cX6_undo 19 = .ok (.dup, 1) := dk_89 (dk_at dksX6_undo_0 19 rfl rfl)
theorem dX6_undo_20 : decode cX6_undo 20 = .ok (.getfield 52, 3) := dk_180 0 52 (dk_at dksX6_undo_0 20 rfl rfl)
theorem dX6_undo_23 : decode cX6_undo 23 = .ok (.iconst 1, 1) := dk_4 (dk_at dksX6_undo_0 23 rfl rfl)
theorem dX6_undo_24 : decode cX6_undo 24 = .ok (.isub, 1) := dk_100 (dk_at dksX6_undo_1 0 rfl rfl)
theorem dX6_undo_25 : decode cX6_undo 25 = .ok (.putfield 52, 3) := dk_181 0 52 (dk_at dksX6_undo_1 1 rfl rfl)
theorem dX6_undo_28 : decode cX6_undo 28 = .ok (.aload_n 0, 1) := dk_42 (dk_at dksX6_undo_1 4 rfl rfl)
theorem dX6_undo_29 : decode cX6_undo 29 = .ok (.getfield 31, 3) := dk_180 0 31 (dk_at dksX6_undo_1 5 rfl rfl)
theorem dX6_undo_32 : decode cX6_undo 32 = .ok (.aload_n 0, 1) := dk_42 (dk_at dksX6_undo_1 8 rfl rfl)
theorem dX6_undo_33 : decode cX6_undo 33 = .ok (.getfield 52, 3) := dk_180 0 52 (dk_at dksX6_undo_1 9 rfl rfl)
theorem dX6_undo_36 : decode cX6_undo 36 = .ok (.aaload, 1) := dk_50 (dk_at dksX6_undo_1 12 rfl rfl)
theorem dX6_undo_37 : decode cX6_undo 37 = .ok (.aload_n 0, 1) := dk_42 (dk_at dksX6_undo_1 13 rfl rfl)
theorem dX6_undo_38 : decode cX6_undo 38 = .ok (.getfield 13, 3) := dk_180 0 13 (dk_at dksX6_undo_1 14 rfl rfl)
theorem dX6_undo_41 : decode cX6_undo 41 = .ok (.invokestatic 55, 3) := dk_184 0 55 (dk_at dksX6_undo_1 17 rfl rfl)
theorem dX6_undo_44 : decode cX6_undo 44 = .ok (.aload_n 0, 1) := dk_42 (dk_at dksX6_undo_1 20 rfl rfl)
theorem dX6_undo_45 : decode cX6_undo 45 = .ok (.getfield 52, 3) := dk_180 0 52 (dk_at dksX6_undo_1 21 rfl rfl)
theorem dX6_undo_48 : decode cX6_undo 48 = .ok (.ireturn, 1) := dk_172 (dk_at dksX6_undo_2 0 rfl rfl)
abbrev cX6_undoCount : ByteArray := prog_12_method_65_code
def yX6_undoCount : MethodName := ⟨RX6, "undoCount", "()I"⟩
def dkwX6_undoCount_0 : List UInt8 := [42, 3, 181, 0, 3, 42, 180, 0, 52, 172]
abbrev dktX6_undoCount_0 : List UInt8 := dkwX6_undoCount_0 ++ []
theorem dksX6_undoCount_0 : cX6_undoCount.data.toList.drop 0 = dktX6_undoCount_0 := by decide +kernel
theorem dX6_undoCount_0 : decode cX6_undoCount 0 = .ok (.aload_n 0, 1) := dk_42 (dk_at dksX6_undoCount_0 0 rfl rfl)
theorem dX6_undoCount_1 : decode cX6_undoCount 1 = .ok (.iconst 0, 1) := dk_3 (dk_at dksX6_undoCount_0 1 rfl rfl)
theorem dX6_undoCount_2 : decode cX6_undoCount 2 = .ok (.putfield 3, 3) := dk_181 0 3 (dk_at dksX6_undoCount_0 2 rfl rfl)
theorem dX6_undoCount_5 : decode cX6_undoCount 5 = .ok (.aload_n 0, 1) := dk_42 (dk_at dksX6_undoCount_0 5 rfl rfl)
theorem dX6_undoCount_6 : decode cX6_undoCount 6 = .ok (.getfield 52, 3) := dk_180 0 52 (dk_at dksX6_undoCount_0 6 rfl rfl)
theorem dX6_undoCount_9 : decode cX6_undoCount 9 = .ok (.ireturn, 1) := dk_172 (dk_at dksX6_undoCount_0 9 rfl rfl)
abbrev cX6_save : ByteArray := prog_12_method_66_code
def yX6_save : MethodName := ⟨RX6, "save", "()I"⟩
def dkwX6_save_1 : List UInt8 := [180, 0, 13, 184, 0, 71, 172]
abbrev dktX6_save_1 : List UInt8 := dkwX6_save_1 ++ []
def dkwX6_save_0 : List UInt8 := [42, 3, 181, 0, 3, 42, 180, 0, 13, 42, 180, 0, 17, 184, 0, 55, 42, 4, 181, 1, 14, 42]
abbrev dktX6_save_0 : List UInt8 := dkwX6_save_0 ++ dktX6_save_1
theorem dksX6_save_0 : cX6_save.data.toList.drop 0 = dktX6_save_0 := by decide +kernel
theorem dksX6_save_1 : cX6_save.data.toList.drop 22 = dktX6_save_1 := dk_seg dksX6_save_0 22 rfl rfl
theorem dX6_save_0 : decode cX6_save 0 = .ok (.aload_n 0, 1) := dk_42 (dk_at dksX6_save_0 0 rfl rfl)
theorem dX6_save_1 : decode cX6_save 1 = .ok (.iconst 0, 1) := dk_3 (dk_at dksX6_save_0 1 rfl rfl)
theorem dX6_save_2 : decode cX6_save 2 = .ok (.putfield 3, 3) := dk_181 0 3 (dk_at dksX6_save_0 2 rfl rfl)
theorem dX6_save_5 : decode cX6_save 5 = .ok (.aload_n 0, 1) := dk_42 (dk_at dksX6_save_0 5 rfl rfl)
theorem dX6_save_6 : decode cX6_save 6 = .ok (.getfield 13, 3) := dk_180 0 13 (dk_at dksX6_save_0 6 rfl rfl)
theorem dX6_save_9 : decode cX6_save 9 = .ok (.aload_n 0, 1) := dk_42 (dk_at dksX6_save_0 9 rfl rfl)
theorem dX6_save_10 : decode cX6_save 10 = .ok (.getfield 17, 3) := dk_180 0 17 (dk_at dksX6_save_0 10 rfl rfl)
theorem dX6_save_13 : decode cX6_save 13 = .ok (.invokestatic 55, 3) := dk_184 0 55 (dk_at dksX6_save_0 13 rfl rfl)
theorem dX6_save_16 : decode cX6_save 16 = .ok (.aload_n 0, 1) := dk_42 (dk_at dksX6_save_0 16 rfl rfl)
theorem dX6_save_17 : decode cX6_save 17 = .ok (.iconst 1, 1) := dk_4 (dk_at dksX6_save_0 17 rfl rfl)
theorem dX6_save_18 : decode cX6_save 18 = .ok (.putfield 270, 3) := dk_181 1 14 (dk_at dksX6_save_0 18 rfl rfl)
theorem dX6_save_21 : decode cX6_save 21 = .ok (.aload_n 0, 1) := dk_42 (dk_at dksX6_save_0 21 rfl rfl)
theorem dX6_save_22 : decode cX6_save 22 = .ok (.getfield 13, 3) := dk_180 0 13 (dk_at dksX6_save_1 0 rfl rfl)
theorem dX6_save_25 : decode cX6_save 25 = .ok (.invokestatic 71, 3) := dk_184 0 71 (dk_at dksX6_save_1 3 rfl rfl)
theorem dX6_save_28 : decode cX6_save 28 = .ok (.ireturn, 1) := dk_172 (dk_at dksX6_save_1 6 rfl rfl)
abbrev cX6_inns : ByteArray := prog_12_method_67_code
def yX6_inns : MethodName := ⟨RX6, "inns", "()I"⟩
def dkwX6_inns_0 : List UInt8 := [42, 3, 181, 0, 3, 42, 180, 0, 13, 184, 0, 71, 172]
abbrev dktX6_inns_0 : List UInt8 := dkwX6_inns_0 ++ []
theorem dksX6_inns_0 : cX6_inns.data.toList.drop 0 = dktX6_inns_0 := by decide +kernel
theorem dX6_inns_0 : decode cX6_inns 0 = .ok (.aload_n 0, 1) := dk_42 (dk_at dksX6_inns_0 0 rfl rfl)
theorem dX6_inns_1 : decode cX6_inns 1 = .ok (.iconst 0, 1) := dk_3 (dk_at dksX6_inns_0 1 rfl rfl)
theorem dX6_inns_2 : decode cX6_inns 2 = .ok (.putfield 3, 3) := dk_181 0 3 (dk_at dksX6_inns_0 2 rfl rfl)
theorem dX6_inns_5 : decode cX6_inns 5 = .ok (.aload_n 0, 1) := dk_42 (dk_at dksX6_inns_0 5 rfl rfl)
theorem dX6_inns_6 : decode cX6_inns 6 = .ok (.getfield 13, 3) := dk_180 0 13 (dk_at dksX6_inns_0 6 rfl rfl)
theorem dX6_inns_9 : decode cX6_inns 9 = .ok (.invokestatic 71, 3) := dk_184 0 71 (dk_at dksX6_inns_0 9 rfl rfl)
theorem dX6_inns_12 : decode cX6_inns 12 = .ok (.ireturn, 1) := dk_172 (dk_at dksX6_inns_0 12 rfl rfl)
abbrev cX6_hasInn : ByteArray := prog_12_method_68_code
def yX6_hasInn : MethodName := ⟨RX6, "hasInn", "(I)Z"⟩
def dkwX6_hasInn_1 : List UInt8 := [180, 0, 13, 27, 184, 0, 85, 172]
abbrev dktX6_hasInn_1 : List UInt8 := dkwX6_hasInn_1 ++ []
def dkwX6_hasInn_0 : List UInt8 := [42, 27, 133, 9, 20, 0, 59, 184, 0, 61, 153, 0, 7, 3, 167, 0, 4, 4, 181, 0, 3, 42]
abbrev dktX6_hasInn_0 : List UInt8 := dkwX6_hasInn_0 ++ dktX6_hasInn_1
theorem dksX6_hasInn_0 : cX6_hasInn.data.toList.drop 0 = dktX6_hasInn_0 := by decide +kernel
theorem dksX6_hasInn_1 : cX6_hasInn.data.toList.drop 22 = dktX6_hasInn_1 := dk_seg dksX6_hasInn_0 22 rfl rfl
theorem dX6_hasInn_0 : decode cX6_hasInn 0 = .ok (.aload_n 0, 1) := dk_42 (dk_at dksX6_hasInn_0 0 rfl rfl)
theorem dX6_hasInn_1 : decode cX6_hasInn 1 = .ok (.iload_n 1, 1) := dk_27 (dk_at dksX6_hasInn_0 1 rfl rfl)
theorem dX6_hasInn_2 : decode cX6_hasInn 2 = .ok (.i2l, 1) := dk_133 (dk_at dksX6_hasInn_0 2 rfl rfl)
theorem dX6_hasInn_3 : decode cX6_hasInn 3 = .ok (.lconst 0, 1) := dk_9 (dk_at dksX6_hasInn_0 3 rfl rfl)
theorem dX6_hasInn_4 : decode cX6_hasInn 4 = .ok (.ldc2_w 59, 3) := dk_20 0 59 (dk_at dksX6_hasInn_0 4 rfl rfl)
theorem dX6_hasInn_7 : decode cX6_hasInn 7 = .ok (.invokestatic 61, 3) := dk_184 0 61 (dk_at dksX6_hasInn_0 7 rfl rfl)
theorem dX6_hasInn_10 : decode cX6_hasInn 10 = .ok (.ifCond .eq 7, 3) := dk_153 0 7 (dk_at dksX6_hasInn_0 10 rfl rfl)
theorem dX6_hasInn_13 : decode cX6_hasInn 13 = .ok (.iconst 0, 1) := dk_3 (dk_at dksX6_hasInn_0 13 rfl rfl)
theorem dX6_hasInn_14 : decode cX6_hasInn 14 = .ok (.goto 4, 3) := dk_167 0 4 (dk_at dksX6_hasInn_0 14 rfl rfl)
theorem dX6_hasInn_17 : decode cX6_hasInn 17 = .ok (.iconst 1, 1) := dk_4 (dk_at dksX6_hasInn_0 17 rfl rfl)
theorem dX6_hasInn_18 : decode cX6_hasInn 18 = .ok (.putfield 3, 3) := dk_181 0 3 (dk_at dksX6_hasInn_0 18 rfl rfl)
theorem dX6_hasInn_21 : decode cX6_hasInn 21 = .ok (.aload_n 0, 1) := dk_42 (dk_at dksX6_hasInn_0 21 rfl rfl)
theorem dX6_hasInn_22 : decode cX6_hasInn 22 = .ok (.getfield 13, 3) := dk_180 0 13 (dk_at dksX6_hasInn_1 0 rfl rfl)
theorem dX6_hasInn_25 : decode cX6_hasInn 25 = .ok (.iload_n 1, 1) := dk_27 (dk_at dksX6_hasInn_1 3 rfl rfl)
theorem dX6_hasInn_26 : decode cX6_hasInn 26 = .ok (.invokestatic 85, 3) := dk_184 0 85 (dk_at dksX6_hasInn_1 4 rfl rfl)
theorem dX6_hasInn_29 : decode cX6_hasInn 29 = .ok (.ireturn, 1) := dk_172 (dk_at dksX6_hasInn_1 7 rfl rfl)
abbrev cX6_mile : ByteArray := prog_12_method_70_code
def yX6_mile : MethodName := ⟨RX6, "mile", "(I)I"⟩
def dkwX6_mile_0 : List UInt8 := [42, 3, 181, 0, 3, 42, 16, 15, 27, 182, 1, 18, 172]
abbrev dktX6_mile_0 : List UInt8 := dkwX6_mile_0 ++ []
theorem dksX6_mile_0 : cX6_mile.data.toList.drop 0 = dktX6_mile_0 := by decide +kernel
theorem dX6_mile_0 : decode cX6_mile 0 = .ok (.aload_n 0, 1) := dk_42 (dk_at dksX6_mile_0 0 rfl rfl)
theorem dX6_mile_1 : decode cX6_mile 1 = .ok (.iconst 0, 1) := dk_3 (dk_at dksX6_mile_0 1 rfl rfl)
theorem dX6_mile_2 : decode cX6_mile 2 = .ok (.putfield 3, 3) := dk_181 0 3 (dk_at dksX6_mile_0 2 rfl rfl)
theorem dX6_mile_5 : decode cX6_mile 5 = .ok (.aload_n 0, 1) := dk_42 (dk_at dksX6_mile_0 5 rfl rfl)
theorem dX6_mile_6 : decode cX6_mile 6 = .ok (.bipush 15, 2) := dk_16 15 (dk_at dksX6_mile_0 6 rfl rfl)
theorem dX6_mile_8 : decode cX6_mile 8 = .ok (.iload_n 1, 1) := dk_27 (dk_at dksX6_mile_0 8 rfl rfl)
theorem dX6_mile_9 : decode cX6_mile 9 = .ok (.invokevirtual 274, 3) := dk_182 1 18 (dk_at dksX6_mile_0 9 rfl rfl)
theorem dX6_mile_12 : decode cX6_mile 12 = .ok (.ireturn, 1) := dk_172 (dk_at dksX6_mile_0 12 rfl rfl)
abbrev cX6_ofInn : ByteArray := prog_12_method_69_code
def yX6_ofInn : MethodName := ⟨RX6, "ofInn", "(II)I"⟩
def dkwX6_ofInn_1 : List UInt8 := [182, 0, 136, 172]
abbrev dktX6_ofInn_1 : List UInt8 := dkwX6_ofInn_1 ++ []
def dkwX6_ofInn_0 : List UInt8 := [42, 180, 0, 13, 28, 184, 0, 85, 153, 0, 14, 42, 180, 0, 13, 27, 28, 96, 46, 167, 0, 8, 42, 4]
abbrev dktX6_ofInn_0 : List UInt8 := dkwX6_ofInn_0 ++ dktX6_ofInn_1
theorem dksX6_ofInn_0 : cX6_ofInn.data.toList.drop 0 = dktX6_ofInn_0 := by decide +kernel
theorem dksX6_ofInn_1 : cX6_ofInn.data.toList.drop 24 = dktX6_ofInn_1 := dk_seg dksX6_ofInn_0 24 rfl rfl
theorem dX6_ofInn_0 : decode cX6_ofInn 0 = .ok (.aload_n 0, 1) := dk_42 (dk_at dksX6_ofInn_0 0 rfl rfl)
theorem dX6_ofInn_1 : decode cX6_ofInn 1 = .ok (.getfield 13, 3) := dk_180 0 13 (dk_at dksX6_ofInn_0 1 rfl rfl)
theorem dX6_ofInn_4 : decode cX6_ofInn 4 = .ok (.iload_n 2, 1) := dk_28 (dk_at dksX6_ofInn_0 4 rfl rfl)
theorem dX6_ofInn_5 : decode cX6_ofInn 5 = .ok (.invokestatic 85, 3) := dk_184 0 85 (dk_at dksX6_ofInn_0 5 rfl rfl)
theorem dX6_ofInn_8 : decode cX6_ofInn 8 = .ok (.ifCond .eq 14, 3) := dk_153 0 14 (dk_at dksX6_ofInn_0 8 rfl rfl)
theorem dX6_ofInn_11 : decode cX6_ofInn 11 = .ok (.aload_n 0, 1) := dk_42 (dk_at dksX6_ofInn_0 11 rfl rfl)
theorem dX6_ofInn_12 : decode cX6_ofInn 12 = .ok (.getfield 13, 3) := dk_180 0 13 (dk_at dksX6_ofInn_0 12 rfl rfl)
theorem dX6_ofInn_15 : decode cX6_ofInn 15 = .ok (.iload_n 1, 1) := dk_27 (dk_at dksX6_ofInn_0 15 rfl rfl)
theorem dX6_ofInn_16 : decode cX6_ofInn 16 = .ok (.iload_n 2, 1) := dk_28 (dk_at dksX6_ofInn_0 16 rfl rfl)
theorem dX6_ofInn_17 : decode cX6_ofInn 17 = .ok (.iadd, 1) := dk_96 (dk_at dksX6_ofInn_0 17 rfl rfl)
theorem dX6_ofInn_18 : decode cX6_ofInn 18 = .ok (.iaload, 1) := dk_46 (dk_at dksX6_ofInn_0 18 rfl rfl)
theorem dX6_ofInn_19 : decode cX6_ofInn 19 = .ok (.goto 8, 3) := dk_167 0 8 (dk_at dksX6_ofInn_0 19 rfl rfl)
theorem dX6_ofInn_22 : decode cX6_ofInn 22 = .ok (.aload_n 0, 1) := dk_42 (dk_at dksX6_ofInn_0 22 rfl rfl)
theorem dX6_ofInn_23 : decode cX6_ofInn 23 = .ok (.iconst 1, 1) := dk_4 (dk_at dksX6_ofInn_0 23 rfl rfl)
theorem dX6_ofInn_24 : decode cX6_ofInn 24 = .ok (.invokevirtual 136, 3) := dk_182 0 136 (dk_at dksX6_ofInn_1 0 rfl rfl)
theorem dX6_ofInn_27 : decode cX6_ofInn 27 = .ok (.ireturn, 1) := dk_172 (dk_at dksX6_ofInn_1 3 rfl rfl)
abbrev cX6_next : ByteArray := prog_12_method_71_code
def yX6_next : MethodName := ⟨RX6, "next", "(I)I"⟩
def dkwX6_next_0 : List UInt8 := [42, 3, 181, 0, 3, 42, 16, 54, 27, 182, 1, 18, 172]
abbrev dktX6_next_0 : List UInt8 := dkwX6_next_0 ++ []
theorem dksX6_next_0 : cX6_next.data.toList.drop 0 = dktX6_next_0 := by decide +kernel
theorem dX6_next_0 : decode cX6_next 0 = .ok (.aload_n 0, 1) := dk_42 (dk_at dksX6_next_0 0 rfl rfl)
theorem dX6_next_1 : decode cX6_next 1 = .ok (.iconst 0, 1) := dk_3 (dk_at dksX6_next_0 1 rfl rfl)
theorem dX6_next_2 : decode cX6_next 2 = .ok (.putfield 3, 3) := dk_181 0 3 (dk_at dksX6_next_0 2 rfl rfl)
theorem dX6_next_5 : decode cX6_next 5 = .ok (.aload_n 0, 1) := dk_42 (dk_at dksX6_next_0 5 rfl rfl)
theorem dX6_next_6 : decode cX6_next 6 = .ok (.bipush 54, 2) := dk_16 54 (dk_at dksX6_next_0 6 rfl rfl)
theorem dX6_next_8 : decode cX6_next 8 = .ok (.iload_n 1, 1) := dk_27 (dk_at dksX6_next_0 8 rfl rfl)
theorem dX6_next_9 : decode cX6_next 9 = .ok (.invokevirtual 274, 3) := dk_182 1 18 (dk_at dksX6_next_0 9 rfl rfl)
theorem dX6_next_12 : decode cX6_next 12 = .ok (.ireturn, 1) := dk_172 (dk_at dksX6_next_0 12 rfl rfl)
abbrev cX6_skip : ByteArray := prog_12_method_72_code
def yX6_skip : MethodName := ⟨RX6, "skip", "(I)I"⟩
def dkwX6_skip_0 : List UInt8 := [42, 3, 181, 0, 3, 42, 16, 66, 27, 182, 1, 18, 172]
abbrev dktX6_skip_0 : List UInt8 := dkwX6_skip_0 ++ []
theorem dksX6_skip_0 : cX6_skip.data.toList.drop 0 = dktX6_skip_0 := by decide +kernel
theorem dX6_skip_0 : decode cX6_skip 0 = .ok (.aload_n 0, 1) := dk_42 (dk_at dksX6_skip_0 0 rfl rfl)
theorem dX6_skip_1 : decode cX6_skip 1 = .ok (.iconst 0, 1) := dk_3 (dk_at dksX6_skip_0 1 rfl rfl)
theorem dX6_skip_2 : decode cX6_skip 2 = .ok (.putfield 3, 3) := dk_181 0 3 (dk_at dksX6_skip_0 2 rfl rfl)
theorem dX6_skip_5 : decode cX6_skip 5 = .ok (.aload_n 0, 1) := dk_42 (dk_at dksX6_skip_0 5 rfl rfl)
theorem dX6_skip_6 : decode cX6_skip 6 = .ok (.bipush 66, 2) := dk_16 66 (dk_at dksX6_skip_0 6 rfl rfl)
theorem dX6_skip_8 : decode cX6_skip 8 = .ok (.iload_n 1, 1) := dk_27 (dk_at dksX6_skip_0 8 rfl rfl)
theorem dX6_skip_9 : decode cX6_skip 9 = .ok (.invokevirtual 274, 3) := dk_182 1 18 (dk_at dksX6_skip_0 9 rfl rfl)
theorem dX6_skip_12 : decode cX6_skip 12 = .ok (.ireturn, 1) := dk_172 (dk_at dksX6_skip_0 12 rfl rfl)
abbrev cX6_isOpen : ByteArray := prog_12_method_73_code
def yX6_isOpen : MethodName := ⟨RX6, "isOpen", "(I)Z"⟩
def dkwX6_isOpen_0 : List UInt8 := [42, 3, 181, 0, 3, 42, 16, 27, 27, 182, 1, 18, 4, 160, 0, 7, 4, 167, 0, 4, 3, 172]
abbrev dktX6_isOpen_0 : List UInt8 := dkwX6_isOpen_0 ++ []
theorem dksX6_isOpen_0 : cX6_isOpen.data.toList.drop 0 = dktX6_isOpen_0 := by decide +kernel
theorem dX6_isOpen_0 : decode cX6_isOpen 0 = .ok (.aload_n 0, 1) := dk_42 (dk_at dksX6_isOpen_0 0 rfl rfl)
theorem dX6_isOpen_1 : decode cX6_isOpen 1 = .ok (.iconst 0, 1) := dk_3 (dk_at dksX6_isOpen_0 1 rfl rfl)
theorem dX6_isOpen_2 : decode cX6_isOpen 2 = .ok (.putfield 3, 3) := dk_181 0 3 (dk_at dksX6_isOpen_0 2 rfl rfl)
theorem dX6_isOpen_5 : decode cX6_isOpen 5 = .ok (.aload_n 0, 1) := dk_42 (dk_at dksX6_isOpen_0 5 rfl rfl)
theorem dX6_isOpen_6 : decode cX6_isOpen 6 = .ok (.bipush 27, 2) := dk_16 27 (dk_at dksX6_isOpen_0 6 rfl rfl)
theorem dX6_isOpen_8 : decode cX6_isOpen 8 = .ok (.iload_n 1, 1) := dk_27 (dk_at dksX6_isOpen_0 8 rfl rfl)
theorem dX6_isOpen_9 : decode cX6_isOpen 9 = .ok (.invokevirtual 274, 3) := dk_182 1 18 (dk_at dksX6_isOpen_0 9 rfl rfl)
theorem dX6_isOpen_12 : decode cX6_isOpen 12 = .ok (.iconst 1, 1) := dk_4 (dk_at dksX6_isOpen_0 12 rfl rfl)
theorem dX6_isOpen_13 : decode cX6_isOpen 13 = .ok (.if_icmp .ne 7, 3) := dk_160 0 7 (dk_at dksX6_isOpen_0 13 rfl rfl)
theorem dX6_isOpen_16 : decode cX6_isOpen 16 = .ok (.iconst 1, 1) := dk_4 (dk_at dksX6_isOpen_0 16 rfl rfl)
theorem dX6_isOpen_17 : decode cX6_isOpen 17 = .ok (.goto 4, 3) := dk_167 0 4 (dk_at dksX6_isOpen_0 17 rfl rfl)
theorem dX6_isOpen_20 : decode cX6_isOpen 20 = .ok (.iconst 0, 1) := dk_3 (dk_at dksX6_isOpen_0 20 rfl rfl)
theorem dX6_isOpen_21 : decode cX6_isOpen 21 = .ok (.ireturn, 1) := dk_172 (dk_at dksX6_isOpen_0 21 rfl rfl)
abbrev cX6_letters : ByteArray := prog_12_method_74_code
def yX6_letters : MethodName := ⟨RX6, "letters", "(I)I"⟩
def dkwX6_letters_0 : List UInt8 := [42, 3, 181, 0, 3, 42, 16, 39, 27, 182, 1, 18, 172]
abbrev dktX6_letters_0 : List UInt8 := dkwX6_letters_0 ++ []
theorem dksX6_letters_0 : cX6_letters.data.toList.drop 0 = dktX6_letters_0 := by decide +kernel
theorem dX6_letters_0 : decode cX6_letters 0 = .ok (.aload_n 0, 1) := dk_42 (dk_at dksX6_letters_0 0 rfl rfl)
theorem dX6_letters_1 : decode cX6_letters 1 = .ok (.iconst 0, 1) := dk_3 (dk_at dksX6_letters_0 1 rfl rfl)
theorem dX6_letters_2 : decode cX6_letters 2 = .ok (.putfield 3, 3) := dk_181 0 3 (dk_at dksX6_letters_0 2 rfl rfl)
theorem dX6_letters_5 : decode cX6_letters 5 = .ok (.aload_n 0, 1) := dk_42 (dk_at dksX6_letters_0 5 rfl rfl)
theorem dX6_letters_6 : decode cX6_letters 6 = .ok (.bipush 39, 2) := dk_16 39 (dk_at dksX6_letters_0 6 rfl rfl)
theorem dX6_letters_8 : decode cX6_letters 8 = .ok (.iload_n 1, 1) := dk_27 (dk_at dksX6_letters_0 8 rfl rfl)
theorem dX6_letters_9 : decode cX6_letters 9 = .ok (.invokevirtual 274, 3) := dk_182 1 18 (dk_at dksX6_letters_0 9 rfl rfl)
theorem dX6_letters_12 : decode cX6_letters 12 = .ok (.ireturn, 1) := dk_172 (dk_at dksX6_letters_0 12 rfl rfl)
abbrev cX6_first : ByteArray := prog_12_method_75_code
def yX6_first : MethodName := ⟨RX6, "first", "()I"⟩
def dkwX6_first_0 : List UInt8 := [42, 3, 181, 0, 3, 42, 180, 0, 13, 16, 51, 46, 172]
abbrev dktX6_first_0 : List UInt8 := dkwX6_first_0 ++ []
theorem dksX6_first_0 : cX6_first.data.toList.drop 0 = dktX6_first_0 := by decide +kernel
theorem dX6_first_0 : decode cX6_first 0 = .ok (.aload_n 0, 1) := dk_42 (dk_at dksX6_first_0 0 rfl rfl)
theorem dX6_first_1 : decode cX6_first 1 = .ok (.iconst 0, 1) := dk_3 (dk_at dksX6_first_0 1 rfl rfl)
theorem dX6_first_2 : decode cX6_first 2 = .ok (.putfield 3, 3) := dk_181 0 3 (dk_at dksX6_first_0 2 rfl rfl)
theorem dX6_first_5 : decode cX6_first 5 = .ok (.aload_n 0, 1) := dk_42 (dk_at dksX6_first_0 5 rfl rfl)
theorem dX6_first_6 : decode cX6_first 6 = .ok (.getfield 13, 3) := dk_180 0 13 (dk_at dksX6_first_0 6 rfl rfl)
theorem dX6_first_9 : decode cX6_first 9 = .ok (.bipush 51, 2) := dk_16 51 (dk_at dksX6_first_0 9 rfl rfl)
theorem dX6_first_11 : decode cX6_first 11 = .ok (.iaload, 1) := dk_46 (dk_at dksX6_first_0 11 rfl rfl)
theorem dX6_first_12 : decode cX6_first 12 = .ok (.ireturn, 1) := dk_172 (dk_at dksX6_first_0 12 rfl rfl)
abbrev cX6_second : ByteArray := prog_12_method_76_code
def yX6_second : MethodName := ⟨RX6, "second", "()I"⟩
def dkwX6_second_0 : List UInt8 := [42, 3, 181, 0, 3, 42, 180, 0, 13, 16, 52, 46, 172]
abbrev dktX6_second_0 : List UInt8 := dkwX6_second_0 ++ []
theorem dksX6_second_0 : cX6_second.data.toList.drop 0 = dktX6_second_0 := by decide +kernel
theorem dX6_second_0 : decode cX6_second 0 = .ok (.aload_n 0, 1) := dk_42 (dk_at dksX6_second_0 0 rfl rfl)
theorem dX6_second_1 : decode cX6_second 1 = .ok (.iconst 0, 1) := dk_3 (dk_at dksX6_second_0 1 rfl rfl)
theorem dX6_second_2 : decode cX6_second 2 = .ok (.putfield 3, 3) := dk_181 0 3 (dk_at dksX6_second_0 2 rfl rfl)
theorem dX6_second_5 : decode cX6_second 5 = .ok (.aload_n 0, 1) := dk_42 (dk_at dksX6_second_0 5 rfl rfl)
theorem dX6_second_6 : decode cX6_second 6 = .ok (.getfield 13, 3) := dk_180 0 13 (dk_at dksX6_second_0 6 rfl rfl)
theorem dX6_second_9 : decode cX6_second 9 = .ok (.bipush 52, 2) := dk_16 52 (dk_at dksX6_second_0 9 rfl rfl)
theorem dX6_second_11 : decode cX6_second 11 = .ok (.iaload, 1) := dk_46 (dk_at dksX6_second_0 11 rfl rfl)
theorem dX6_second_12 : decode cX6_second 12 = .ok (.ireturn, 1) := dk_172 (dk_at dksX6_second_0 12 rfl rfl)
abbrev cX6_storedCount : ByteArray := prog_12_method_77_code
def yX6_storedCount : MethodName := ⟨RX6, "storedCount", "()I"⟩
def dkwX6_storedCount_0 : List UInt8 := [42, 3, 181, 0, 3, 42, 180, 0, 13, 16, 53, 46, 172]
abbrev dktX6_storedCount_0 : List UInt8 := dkwX6_storedCount_0 ++ []
theorem dksX6_storedCount_0 : cX6_storedCount.data.toList.drop 0 = dktX6_storedCount_0 := by decide +kernel
theorem dX6_storedCount_0 : decode cX6_storedCount 0 = .ok (.aload_n 0, 1) := dk_42 (dk_at dksX6_storedCount_0 0 rfl rfl)
theorem dX6_storedCount_1 : decode cX6_storedCount 1 = .ok (.iconst 0, 1) := dk_3 (dk_at dksX6_storedCount_0 1 rfl rfl)
theorem dX6_storedCount_2 : decode cX6_storedCount 2 = .ok (.putfield 3, 3) := dk_181 0 3 (dk_at dksX6_storedCount_0 2 rfl rfl)
theorem dX6_storedCount_5 : decode cX6_storedCount 5 = .ok (.aload_n 0, 1) := dk_42 (dk_at dksX6_storedCount_0 5 rfl rfl)
theorem dX6_storedCount_6 : decode cX6_storedCount 6 = .ok (.getfield 13, 3) := dk_180 0 13 (dk_at dksX6_storedCount_0 6 rfl rfl)
theorem dX6_storedCount_9 : decode cX6_storedCount 9 = .ok (.bipush 53, 2) := dk_16 53 (dk_at dksX6_storedCount_0 9 rfl rfl)
theorem dX6_storedCount_11 : decode cX6_storedCount 11 = .ok (.iaload, 1) := dk_46 (dk_at dksX6_storedCount_0 11 rfl rfl)
theorem dX6_storedCount_12 : decode cX6_storedCount 12 = .ok (.ireturn, 1) := dk_172 (dk_at dksX6_storedCount_0 12 rfl rfl)
abbrev cX6_range : ByteArray := prog_12_method_78_code
def yX6_range : MethodName := ⟨RX6, "range", "()I"⟩
def dkwX6_range_0 : List UInt8 := [42, 3, 181, 0, 3, 42, 180, 0, 13, 3, 46, 172]
abbrev dktX6_range_0 : List UInt8 := dkwX6_range_0 ++ []
theorem dksX6_range_0 : cX6_range.data.toList.drop 0 = dktX6_range_0 := by decide +kernel
theorem dX6_range_0 : decode cX6_range 0 = .ok (.aload_n 0, 1) := dk_42 (dk_at dksX6_range_0 0 rfl rfl)
theorem dX6_range_1 : decode cX6_range 1 = .ok (.iconst 0, 1) := dk_3 (dk_at dksX6_range_0 1 rfl rfl)
theorem dX6_range_2 : decode cX6_range 2 = .ok (.putfield 3, 3) := dk_181 0 3 (dk_at dksX6_range_0 2 rfl rfl)
theorem dX6_range_5 : decode cX6_range 5 = .ok (.aload_n 0, 1) := dk_42 (dk_at dksX6_range_0 5 rfl rfl)
theorem dX6_range_6 : decode cX6_range 6 = .ok (.getfield 13, 3) := dk_180 0 13 (dk_at dksX6_range_0 6 rfl rfl)
theorem dX6_range_9 : decode cX6_range 9 = .ok (.iconst 0, 1) := dk_3 (dk_at dksX6_range_0 9 rfl rfl)
theorem dX6_range_10 : decode cX6_range 10 = .ok (.iaload, 1) := dk_46 (dk_at dksX6_range_0 10 rfl rfl)
theorem dX6_range_11 : decode cX6_range 11 = .ok (.ireturn, 1) := dk_172 (dk_at dksX6_range_0 11 rfl rfl)
abbrev cX6_openInns : ByteArray := prog_12_method_80_code
def yX6_openInns : MethodName := ⟨RX6, "openInns", "()I"⟩
def dkwX6_openInns_0 : List UInt8 := [42, 3, 181, 0, 3, 42, 182, 1, 21, 172]
abbrev dktX6_openInns_0 : List UInt8 := dkwX6_openInns_0 ++ []
theorem dksX6_openInns_0 : cX6_openInns.data.toList.drop 0 = dktX6_openInns_0 := by decide +kernel
theorem dX6_openInns_0 : decode cX6_openInns 0 = .ok (.aload_n 0, 1) := dk_42 (dk_at dksX6_openInns_0 0 rfl rfl)
theorem dX6_openInns_1 : decode cX6_openInns 1 = .ok (.iconst 0, 1) := dk_3 (dk_at dksX6_openInns_0 1 rfl rfl)
theorem dX6_openInns_2 : decode cX6_openInns 2 = .ok (.putfield 3, 3) := dk_181 0 3 (dk_at dksX6_openInns_0 2 rfl rfl)
theorem dX6_openInns_5 : decode cX6_openInns 5 = .ok (.aload_n 0, 1) := dk_42 (dk_at dksX6_openInns_0 5 rfl rfl)
theorem dX6_openInns_6 : decode cX6_openInns 6 = .ok (.invokevirtual 277, 3) := dk_182 1 21 (dk_at dksX6_openInns_0 6 rfl rfl)
theorem dX6_openInns_9 : decode cX6_openInns 9 = .ok (.ireturn, 1) := dk_172 (dk_at dksX6_openInns_0 9 rfl rfl)
abbrev cX6_openOnes : ByteArray := prog_12_method_79_code
def yX6_openOnes : MethodName := ⟨RX6, "openOnes", "()I"⟩
def dkwX6_openOnes_1 : List UInt8 := [180, 0, 13, 16, 27, 28, 96, 46, 167, 0, 4, 3, 96, 60, 132, 2, 1, 167, 255, 219, 27, 172]
abbrev dktX6_openOnes_1 : List UInt8 := dkwX6_openOnes_1 ++ []
def dkwX6_openOnes_0 : List UInt8 := [3, 60, 3, 61, 28, 16, 12, 162, 0, 37, 27, 42, 180, 0, 13, 6, 28, 96, 46, 4, 160, 0, 15, 42]
abbrev dktX6_openOnes_0 : List UInt8 := dkwX6_openOnes_0 ++ dktX6_openOnes_1
theorem dksX6_openOnes_0 : cX6_openOnes.data.toList.drop 0 = dktX6_openOnes_0 := by decide +kernel
theorem dksX6_openOnes_1 : cX6_openOnes.data.toList.drop 24 = dktX6_openOnes_1 := dk_seg dksX6_openOnes_0 24 rfl rfl
theorem dX6_openOnes_0 : decode cX6_openOnes 0 = .ok (.iconst 0, 1) := dk_3 (dk_at dksX6_openOnes_0 0 rfl rfl)
theorem dX6_openOnes_1 : decode cX6_openOnes 1 = .ok (.istore_n 1, 1) := dk_60 (dk_at dksX6_openOnes_0 1 rfl rfl)
theorem dX6_openOnes_2 : decode cX6_openOnes 2 = .ok (.iconst 0, 1) := dk_3 (dk_at dksX6_openOnes_0 2 rfl rfl)
theorem dX6_openOnes_3 : decode cX6_openOnes 3 = .ok (.istore_n 2, 1) := dk_61 (dk_at dksX6_openOnes_0 3 rfl rfl)
theorem dX6_openOnes_4 : decode cX6_openOnes 4 = .ok (.iload_n 2, 1) := dk_28 (dk_at dksX6_openOnes_0 4 rfl rfl)
theorem dX6_openOnes_5 : decode cX6_openOnes 5 = .ok (.bipush 12, 2) := dk_16 12 (dk_at dksX6_openOnes_0 5 rfl rfl)
theorem dX6_openOnes_7 : decode cX6_openOnes 7 = .ok (.if_icmp .ge 37, 3) := dk_162 0 37 (dk_at dksX6_openOnes_0 7 rfl rfl)
theorem dX6_openOnes_10 : decode cX6_openOnes 10 = .ok (.iload_n 1, 1) := dk_27 (dk_at dksX6_openOnes_0 10 rfl rfl)
theorem dX6_openOnes_11 : decode cX6_openOnes 11 = .ok (.aload_n 0, 1) := dk_42 (dk_at dksX6_openOnes_0 11 rfl rfl)
theorem dX6_openOnes_12 : decode cX6_openOnes 12 = .ok (.getfield 13, 3) := dk_180 0 13 (dk_at dksX6_openOnes_0 12 rfl rfl)
theorem dX6_openOnes_15 : decode cX6_openOnes 15 = .ok (.iconst 3, 1) := dk_6 (dk_at dksX6_openOnes_0 15 rfl rfl)
theorem dX6_openOnes_16 : decode cX6_openOnes 16 = .ok (.iload_n 2, 1) := dk_28 (dk_at dksX6_openOnes_0 16 rfl rfl)
theorem dX6_openOnes_17 : decode cX6_openOnes 17 = .ok (.iadd, 1) := dk_96 (dk_at dksX6_openOnes_0 17 rfl rfl)
theorem dX6_openOnes_18 : decode cX6_openOnes 18 = .ok (.iaload, 1) := dk_46 (dk_at dksX6_openOnes_0 18 rfl rfl)
theorem dX6_openOnes_19 : decode cX6_openOnes 19 = .ok (.iconst 1, 1) := dk_4 (dk_at dksX6_openOnes_0 19 rfl rfl)
theorem dX6_openOnes_20 : decode cX6_openOnes 20 = .ok (.if_icmp .ne 15, 3) := dk_160 0 15 (dk_at dksX6_openOnes_0 20 rfl rfl)
theorem dX6_openOnes_23 : decode cX6_openOnes 23 = .ok (.aload_n 0, 1) := dk_42 (dk_at dksX6_openOnes_0 23 rfl rfl)
theorem dX6_openOnes_24 : decode cX6_openOnes 24 = .ok (.getfield 13, 3) := dk_180 0 13 (dk_at dksX6_openOnes_1 0 rfl rfl)
theorem dX6_openOnes_27 : decode cX6_openOnes 27 = .ok (.bipush 27, 2) := dk_16 27 (dk_at dksX6_openOnes_1 3 rfl rfl)
theorem dX6_openOnes_29 : decode cX6_openOnes 29 = .ok (.iload_n 2, 1) := dk_28 (dk_at dksX6_openOnes_1 5 rfl rfl)
theorem dX6_openOnes_30 : decode cX6_openOnes 30 = .ok (.iadd, 1) := dk_96 (dk_at dksX6_openOnes_1 6 rfl rfl)
theorem dX6_openOnes_31 : decode cX6_openOnes 31 = .ok (.iaload, 1) := dk_46 (dk_at dksX6_openOnes_1 7 rfl rfl)
theorem dX6_openOnes_32 : decode cX6_openOnes 32 = .ok (.goto 4, 3) := dk_167 0 4 (dk_at dksX6_openOnes_1 8 rfl rfl)
theorem dX6_openOnes_35 : decode cX6_openOnes 35 = .ok (.iconst 0, 1) := dk_3 (dk_at dksX6_openOnes_1 11 rfl rfl)
theorem dX6_openOnes_36 : decode cX6_openOnes 36 = .ok (.iadd, 1) := dk_96 (dk_at dksX6_openOnes_1 12 rfl rfl)
theorem dX6_openOnes_37 : decode cX6_openOnes 37 = .ok (.istore_n 1, 1) := dk_60 (dk_at dksX6_openOnes_1 13 rfl rfl)
theorem dX6_openOnes_38 : decode cX6_openOnes 38 = .ok (.iinc 2 1, 3) := dk_132 2 1 (dk_at dksX6_openOnes_1 14 rfl rfl)
theorem dX6_openOnes_41 : decode cX6_openOnes 41 = .ok (.goto (-37), 3) := dk_167 255 219 (dk_at dksX6_openOnes_1 17 rfl rfl)
theorem dX6_openOnes_44 : decode cX6_openOnes 44 = .ok (.iload_n 1, 1) := dk_27 (dk_at dksX6_openOnes_1 20 rfl rfl)
theorem dX6_openOnes_45 : decode cX6_openOnes 45 = .ok (.ireturn, 1) := dk_172 (dk_at dksX6_openOnes_1 21 rfl rfl)
abbrev cX6_innAtMile : ByteArray := prog_12_method_81_code
def yX6_innAtMile : MethodName := ⟨RX6, "innAtMile", "(I)I"⟩
def dkwX6_innAtMile_0 : List UInt8 := [42, 3, 181, 0, 3, 42, 180, 0, 13, 27, 184, 0, 196, 172]
abbrev dktX6_innAtMile_0 : List UInt8 := dkwX6_innAtMile_0 ++ []
theorem dksX6_innAtMile_0 : cX6_innAtMile.data.toList.drop 0 = dktX6_innAtMile_0 := by decide +kernel
theorem dX6_innAtMile_0 : decode cX6_innAtMile 0 = .ok (.aload_n 0, 1) := dk_42 (dk_at dksX6_innAtMile_0 0 rfl rfl)
theorem dX6_innAtMile_1 : decode cX6_innAtMile 1 = .ok (.iconst 0, 1) := dk_3 (dk_at dksX6_innAtMile_0 1 rfl rfl)
theorem dX6_innAtMile_2 : decode cX6_innAtMile 2 = .ok (.putfield 3, 3) := dk_181 0 3 (dk_at dksX6_innAtMile_0 2 rfl rfl)
theorem dX6_innAtMile_5 : decode cX6_innAtMile 5 = .ok (.aload_n 0, 1) := dk_42 (dk_at dksX6_innAtMile_0 5 rfl rfl)
theorem dX6_innAtMile_6 : decode cX6_innAtMile 6 = .ok (.getfield 13, 3) := dk_180 0 13 (dk_at dksX6_innAtMile_0 6 rfl rfl)
theorem dX6_innAtMile_9 : decode cX6_innAtMile 9 = .ok (.iload_n 1, 1) := dk_27 (dk_at dksX6_innAtMile_0 9 rfl rfl)
theorem dX6_innAtMile_10 : decode cX6_innAtMile 10 = .ok (.invokestatic 196, 3) := dk_184 0 196 (dk_at dksX6_innAtMile_0 10 rfl rfl)
theorem dX6_innAtMile_13 : decode cX6_innAtMile 13 = .ok (.ireturn, 1) := dk_172 (dk_at dksX6_innAtMile_0 13 rfl rfl)
abbrev cX6_totalLetters : ByteArray := prog_12_method_82_code
def yX6_totalLetters : MethodName := ⟨RX6, "totalLetters", "()I"⟩
def dkwX6_totalLetters_2 : List UInt8 := [167, 255, 219, 27, 172]
abbrev dktX6_totalLetters_2 : List UInt8 := dkwX6_totalLetters_2 ++ []
def dkwX6_totalLetters_1 : List UInt8 := [4, 160, 0, 15, 42, 180, 0, 13, 16, 39, 28, 96, 46, 167, 0, 4, 3, 96, 60, 132, 2, 1]
abbrev dktX6_totalLetters_1 : List UInt8 := dkwX6_totalLetters_1 ++ dktX6_totalLetters_2
def dkwX6_totalLetters_0 : List UInt8 := [42, 3, 181, 0, 3, 3, 60, 3, 61, 28, 16, 12, 162, 0, 37, 27, 42, 180, 0, 13, 6, 28, 96, 46]
abbrev dktX6_totalLetters_0 : List UInt8 := dkwX6_totalLetters_0 ++ dktX6_totalLetters_1
theorem dksX6_totalLetters_0 : cX6_totalLetters.data.toList.drop 0 = dktX6_totalLetters_0 := by decide +kernel
theorem dksX6_totalLetters_1 : cX6_totalLetters.data.toList.drop 24 = dktX6_totalLetters_1 := dk_seg dksX6_totalLetters_0 24 rfl rfl
theorem dksX6_totalLetters_2 : cX6_totalLetters.data.toList.drop 46 = dktX6_totalLetters_2 := dk_seg dksX6_totalLetters_1 22 rfl rfl
theorem dX6_totalLetters_0 : decode cX6_totalLetters 0 = .ok (.aload_n 0, 1) := dk_42 (dk_at dksX6_totalLetters_0 0 rfl rfl)
theorem dX6_totalLetters_1 : decode cX6_totalLetters 1 = .ok (.iconst 0, 1) := dk_3 (dk_at dksX6_totalLetters_0 1 rfl rfl)
theorem dX6_totalLetters_2 : decode cX6_totalLetters 2 = .ok (.putfield 3, 3) := dk_181 0 3 (dk_at dksX6_totalLetters_0 2 rfl rfl)
theorem dX6_totalLetters_5 : decode cX6_totalLetters 5 = .ok (.iconst 0, 1) := dk_3 (dk_at dksX6_totalLetters_0 5 rfl rfl)
theorem dX6_totalLetters_6 : decode cX6_totalLetters 6 = .ok (.istore_n 1, 1) := dk_60 (dk_at dksX6_totalLetters_0 6 rfl rfl)
theorem dX6_totalLetters_7 : decode cX6_totalLetters 7 = .ok (.iconst 0, 1) := dk_3 (dk_at dksX6_totalLetters_0 7 rfl rfl)
theorem dX6_totalLetters_8 : decode cX6_totalLetters 8 = .ok (.istore_n 2, 1) := dk_61 (dk_at dksX6_totalLetters_0 8 rfl rfl)
theorem dX6_totalLetters_9 : decode cX6_totalLetters 9 = .ok (.iload_n 2, 1) := dk_28 (dk_at dksX6_totalLetters_0 9 rfl rfl)
theorem dX6_totalLetters_10 : decode cX6_totalLetters 10 = .ok (.bipush 12, 2) := dk_16 12 (dk_at dksX6_totalLetters_0 10 rfl rfl)
theorem dX6_totalLetters_12 : decode cX6_totalLetters 12 = .ok (.if_icmp .ge 37, 3) := dk_162 0 37 (dk_at dksX6_totalLetters_0 12 rfl rfl)
theorem dX6_totalLetters_15 : decode cX6_totalLetters 15 = .ok (.iload_n 1, 1) := dk_27 (dk_at dksX6_totalLetters_0 15 rfl rfl)
theorem dX6_totalLetters_16 : decode cX6_totalLetters 16 = .ok (.aload_n 0, 1) := dk_42 (dk_at dksX6_totalLetters_0 16 rfl rfl)
theorem dX6_totalLetters_17 : decode cX6_totalLetters 17 = .ok (.getfield 13, 3) := dk_180 0 13 (dk_at dksX6_totalLetters_0 17 rfl rfl)
theorem dX6_totalLetters_20 : decode cX6_totalLetters 20 = .ok (.iconst 3, 1) := dk_6 (dk_at dksX6_totalLetters_0 20 rfl rfl)
theorem dX6_totalLetters_21 : decode cX6_totalLetters 21 = .ok (.iload_n 2, 1) := dk_28 (dk_at dksX6_totalLetters_0 21 rfl rfl)
theorem dX6_totalLetters_22 : decode cX6_totalLetters 22 = .ok (.iadd, 1) := dk_96 (dk_at dksX6_totalLetters_0 22 rfl rfl)
theorem dX6_totalLetters_23 : decode cX6_totalLetters 23 = .ok (.iaload, 1) := dk_46 (dk_at dksX6_totalLetters_0 23 rfl rfl)
theorem dX6_totalLetters_24 : decode cX6_totalLetters 24 = .ok (.iconst 1, 1) := dk_4 (dk_at dksX6_totalLetters_1 0 rfl rfl)
theorem dX6_totalLetters_25 : decode cX6_totalLetters 25 = .ok (.if_icmp .ne 15, 3) := dk_160 0 15 (dk_at dksX6_totalLetters_1 1 rfl rfl)
theorem dX6_totalLetters_28 : decode cX6_totalLetters 28 = .ok (.aload_n 0, 1) := dk_42 (dk_at dksX6_totalLetters_1 4 rfl rfl)
theorem dX6_totalLetters_29 : decode cX6_totalLetters 29 = .ok (.getfield 13, 3) := dk_180 0 13 (dk_at dksX6_totalLetters_1 5 rfl rfl)
theorem dX6_totalLetters_32 : decode cX6_totalLetters 32 = .ok (.bipush 39, 2) := dk_16 39 (dk_at dksX6_totalLetters_1 8 rfl rfl)
theorem dX6_totalLetters_34 : decode cX6_totalLetters 34 = .ok (.iload_n 2, 1) := dk_28 (dk_at dksX6_totalLetters_1 10 rfl rfl)
theorem dX6_totalLetters_35 : decode cX6_totalLetters 35 = .ok (.iadd, 1) := dk_96 (dk_at dksX6_totalLetters_1 11 rfl rfl)
theorem dX6_totalLetters_36 : decode cX6_totalLetters 36 = .ok (.iaload, 1) := dk_46 (dk_at dksX6_totalLetters_1 12 rfl rfl)
theorem dX6_totalLetters_37 : decode cX6_totalLetters 37 = .ok (.goto 4, 3) := dk_167 0 4 (dk_at dksX6_totalLetters_1 13 rfl rfl)
theorem dX6_totalLetters_40 : decode cX6_totalLetters 40 = .ok (.iconst 0, 1) := dk_3 (dk_at dksX6_totalLetters_1 16 rfl rfl)
theorem dX6_totalLetters_41 : decode cX6_totalLetters 41 = .ok (.iadd, 1) := dk_96 (dk_at dksX6_totalLetters_1 17 rfl rfl)
theorem dX6_totalLetters_42 : decode cX6_totalLetters 42 = .ok (.istore_n 1, 1) := dk_60 (dk_at dksX6_totalLetters_1 18 rfl rfl)
theorem dX6_totalLetters_43 : decode cX6_totalLetters 43 = .ok (.iinc 2 1, 3) := dk_132 2 1 (dk_at dksX6_totalLetters_1 19 rfl rfl)
theorem dX6_totalLetters_46 : decode cX6_totalLetters 46 = .ok (.goto (-37), 3) := dk_167 255 219 (dk_at dksX6_totalLetters_2 0 rfl rfl)
theorem dX6_totalLetters_49 : decode cX6_totalLetters 49 = .ok (.iload_n 1, 1) := dk_27 (dk_at dksX6_totalLetters_2 3 rfl rfl)
theorem dX6_totalLetters_50 : decode cX6_totalLetters 50 = .ok (.ireturn, 1) := dk_172 (dk_at dksX6_totalLetters_2 4 rfl rfl)
abbrev cX6_stagesRidden : ByteArray := prog_12_method_83_code
def yX6_stagesRidden : MethodName := ⟨RX6, "stagesRidden", "()I"⟩
def dkwX6_stagesRidden_0 : List UInt8 := [42, 3, 181, 0, 3, 42, 180, 0, 13, 4, 46, 172]
abbrev dktX6_stagesRidden_0 : List UInt8 := dkwX6_stagesRidden_0 ++ []
theorem dksX6_stagesRidden_0 : cX6_stagesRidden.data.toList.drop 0 = dktX6_stagesRidden_0 := by decide +kernel
theorem dX6_stagesRidden_0 : decode cX6_stagesRidden 0 = .ok (.aload_n 0, 1) := dk_42 (dk_at dksX6_stagesRidden_0 0 rfl rfl)
theorem dX6_stagesRidden_1 : decode cX6_stagesRidden 1 = .ok (.iconst 0, 1) := dk_3 (dk_at dksX6_stagesRidden_0 1 rfl rfl)
theorem dX6_stagesRidden_2 : decode cX6_stagesRidden 2 = .ok (.putfield 3, 3) := dk_181 0 3 (dk_at dksX6_stagesRidden_0 2 rfl rfl)
theorem dX6_stagesRidden_5 : decode cX6_stagesRidden 5 = .ok (.aload_n 0, 1) := dk_42 (dk_at dksX6_stagesRidden_0 5 rfl rfl)
theorem dX6_stagesRidden_6 : decode cX6_stagesRidden 6 = .ok (.getfield 13, 3) := dk_180 0 13 (dk_at dksX6_stagesRidden_0 6 rfl rfl)
theorem dX6_stagesRidden_9 : decode cX6_stagesRidden 9 = .ok (.iconst 1, 1) := dk_4 (dk_at dksX6_stagesRidden_0 9 rfl rfl)
theorem dX6_stagesRidden_10 : decode cX6_stagesRidden 10 = .ok (.iaload, 1) := dk_46 (dk_at dksX6_stagesRidden_0 10 rfl rfl)
theorem dX6_stagesRidden_11 : decode cX6_stagesRidden 11 = .ok (.ireturn, 1) := dk_172 (dk_at dksX6_stagesRidden_0 11 rfl rfl)
abbrev cX6_lettersDelivered : ByteArray := prog_12_method_84_code
def yX6_lettersDelivered : MethodName := ⟨RX6, "lettersDelivered", "()I"⟩
def dkwX6_lettersDelivered_0 : List UInt8 := [42, 3, 181, 0, 3, 42, 180, 0, 13, 5, 46, 172]
abbrev dktX6_lettersDelivered_0 : List UInt8 := dkwX6_lettersDelivered_0 ++ []
theorem dksX6_lettersDelivered_0 : cX6_lettersDelivered.data.toList.drop 0 = dktX6_lettersDelivered_0 := by decide +kernel
theorem dX6_lettersDelivered_0 : decode cX6_lettersDelivered 0 = .ok (.aload_n 0, 1) := dk_42 (dk_at dksX6_lettersDelivered_0 0 rfl rfl)
theorem dX6_lettersDelivered_1 : decode cX6_lettersDelivered 1 = .ok (.iconst 0, 1) := dk_3 (dk_at dksX6_lettersDelivered_0 1 rfl rfl)
theorem dX6_lettersDelivered_2 : decode cX6_lettersDelivered 2 = .ok (.putfield 3, 3) := dk_181 0 3 (dk_at dksX6_lettersDelivered_0 2 rfl rfl)
theorem dX6_lettersDelivered_5 : decode cX6_lettersDelivered 5 = .ok (.aload_n 0, 1) := dk_42 (dk_at dksX6_lettersDelivered_0 5 rfl rfl)
theorem dX6_lettersDelivered_6 : decode cX6_lettersDelivered 6 = .ok (.getfield 13, 3) := dk_180 0 13 (dk_at dksX6_lettersDelivered_0 6 rfl rfl)
theorem dX6_lettersDelivered_9 : decode cX6_lettersDelivered 9 = .ok (.iconst 2, 1) := dk_5 (dk_at dksX6_lettersDelivered_0 9 rfl rfl)
theorem dX6_lettersDelivered_10 : decode cX6_lettersDelivered 10 = .ok (.iaload, 1) := dk_46 (dk_at dksX6_lettersDelivered_0 10 rfl rfl)
theorem dX6_lettersDelivered_11 : decode cX6_lettersDelivered 11 = .ok (.ireturn, 1) := dk_172 (dk_at dksX6_lettersDelivered_0 11 rfl rfl)
abbrev cX6_meanGap : ByteArray := prog_12_method_85_code
def yX6_meanGap : MethodName := ⟨RX6, "meanGap", "()D"⟩
def dkwX6_meanGap_4 : List UInt8 := [162, 0, 7, 14, 167, 0, 12, 28, 27, 100, 135, 29, 4, 100, 135, 111, 175]
abbrev dktX6_meanGap_4 : List UInt8 := dkwX6_meanGap_4 ++ []
def dkwX6_meanGap_3 : List UInt8 := [184, 1, 27, 167, 0, 4, 28, 61, 132, 3, 1, 167, 255, 187, 42, 180, 0, 13, 184, 0, 71, 62, 29, 5]
abbrev dktX6_meanGap_3 : List UInt8 := dkwX6_meanGap_3 ++ dktX6_meanGap_4
def dkwX6_meanGap_2 : List UInt8 := [60, 42, 180, 0, 13, 6, 29, 96, 46, 4, 160, 0, 19, 28, 42, 180, 0, 13, 16, 15, 29, 96, 46]
abbrev dktX6_meanGap_2 : List UInt8 := dkwX6_meanGap_2 ++ dktX6_meanGap_3
def dkwX6_meanGap_1 : List UInt8 := [29, 96, 46, 4, 160, 0, 19, 27, 42, 180, 0, 13, 16, 15, 29, 96, 46, 184, 1, 24, 167, 0, 4, 27]
abbrev dktX6_meanGap_1 : List UInt8 := dkwX6_meanGap_1 ++ dktX6_meanGap_2
def dkwX6_meanGap_0 : List UInt8 := [42, 3, 181, 0, 3, 17, 3, 231, 60, 3, 61, 3, 62, 29, 16, 12, 162, 0, 69, 42, 180, 0, 13, 6]
abbrev dktX6_meanGap_0 : List UInt8 := dkwX6_meanGap_0 ++ dktX6_meanGap_1
theorem dksX6_meanGap_0 : cX6_meanGap.data.toList.drop 0 = dktX6_meanGap_0 := by decide +kernel
theorem dksX6_meanGap_1 : cX6_meanGap.data.toList.drop 24 = dktX6_meanGap_1 := dk_seg dksX6_meanGap_0 24 rfl rfl
theorem dksX6_meanGap_2 : cX6_meanGap.data.toList.drop 48 = dktX6_meanGap_2 := dk_seg dksX6_meanGap_1 24 rfl rfl
theorem dksX6_meanGap_3 : cX6_meanGap.data.toList.drop 71 = dktX6_meanGap_3 := dk_seg dksX6_meanGap_2 23 rfl rfl
theorem dksX6_meanGap_4 : cX6_meanGap.data.toList.drop 95 = dktX6_meanGap_4 := dk_seg dksX6_meanGap_3 24 rfl rfl
theorem dX6_meanGap_0 : decode cX6_meanGap 0 = .ok (.aload_n 0, 1) := dk_42 (dk_at dksX6_meanGap_0 0 rfl rfl)
theorem dX6_meanGap_1 : decode cX6_meanGap 1 = .ok (.iconst 0, 1) := dk_3 (dk_at dksX6_meanGap_0 1 rfl rfl)
theorem dX6_meanGap_2 : decode cX6_meanGap 2 = .ok (.putfield 3, 3) := dk_181 0 3 (dk_at dksX6_meanGap_0 2 rfl rfl)
theorem dX6_meanGap_5 : decode cX6_meanGap 5 = .ok (.sipush 999, 3) := dk_17 3 231 (dk_at dksX6_meanGap_0 5 rfl rfl)
theorem dX6_meanGap_8 : decode cX6_meanGap 8 = .ok (.istore_n 1, 1) := dk_60 (dk_at dksX6_meanGap_0 8 rfl rfl)
theorem dX6_meanGap_9 : decode cX6_meanGap 9 = .ok (.iconst 0, 1) := dk_3 (dk_at dksX6_meanGap_0 9 rfl rfl)
theorem dX6_meanGap_10 : decode cX6_meanGap 10 = .ok (.istore_n 2, 1) := dk_61 (dk_at dksX6_meanGap_0 10 rfl rfl)
theorem dX6_meanGap_11 : decode cX6_meanGap 11 = .ok (.iconst 0, 1) := dk_3 (dk_at dksX6_meanGap_0 11 rfl rfl)
theorem dX6_meanGap_12 : decode cX6_meanGap 12 = .ok (.istore_n 3, 1) := dk_62 (dk_at dksX6_meanGap_0 12 rfl rfl)
theorem dX6_meanGap_13 : decode cX6_meanGap 13 = .ok (.iload_n 3, 1) := dk_29 (dk_at dksX6_meanGap_0 13 rfl rfl)
theorem dX6_meanGap_14 : decode cX6_meanGap 14 = .ok (.bipush 12, 2) := dk_16 12 (dk_at dksX6_meanGap_0 14 rfl rfl)
theorem dX6_meanGap_16 : decode cX6_meanGap 16 = .ok (.if_icmp .ge 69, 3) := dk_162 0 69 (dk_at dksX6_meanGap_0 16 rfl rfl)
theorem dX6_meanGap_19 : decode cX6_meanGap 19 = .ok (.aload_n 0, 1) := dk_42 (dk_at dksX6_meanGap_0 19 rfl rfl)
theorem dX6_meanGap_20 : decode cX6_meanGap 20 = .ok (.getfield 13, 3) := dk_180 0 13 (dk_at dksX6_meanGap_0 20 rfl rfl)
theorem dX6_meanGap_23 : decode cX6_meanGap 23 = .ok (.iconst 3, 1) := dk_6 (dk_at dksX6_meanGap_0 23 rfl rfl)
theorem dX6_meanGap_24 : decode cX6_meanGap 24 = .ok (.iload_n 3, 1) := dk_29 (dk_at dksX6_meanGap_1 0 rfl rfl)
theorem dX6_meanGap_25 : decode cX6_meanGap 25 = .ok (.iadd, 1) := dk_96 (dk_at dksX6_meanGap_1 1 rfl rfl)
theorem dX6_meanGap_26 : decode cX6_meanGap 26 = .ok (.iaload, 1) := dk_46 (dk_at dksX6_meanGap_1 2 rfl rfl)
theorem dX6_meanGap_27 : decode cX6_meanGap 27 = .ok (.iconst 1, 1) := dk_4 (dk_at dksX6_meanGap_1 3 rfl rfl)
theorem dX6_meanGap_28 : decode cX6_meanGap 28 = .ok (.if_icmp .ne 19, 3) := dk_160 0 19 (dk_at dksX6_meanGap_1 4 rfl rfl)
theorem dX6_meanGap_31 : decode cX6_meanGap 31 = .ok (.iload_n 1, 1) := dk_27 (dk_at dksX6_meanGap_1 7 rfl rfl)
theorem dX6_meanGap_32 : decode cX6_meanGap 32 = .ok (.aload_n 0, 1) := dk_42 (dk_at dksX6_meanGap_1 8 rfl rfl)
theorem dX6_meanGap_33 : decode cX6_meanGap 33 = .ok (.getfield 13, 3) := dk_180 0 13 (dk_at dksX6_meanGap_1 9 rfl rfl)
theorem dX6_meanGap_36 : decode cX6_meanGap 36 = .ok (.bipush 15, 2) := dk_16 15 (dk_at dksX6_meanGap_1 12 rfl rfl)
theorem dX6_meanGap_38 : decode cX6_meanGap 38 = .ok (.iload_n 3, 1) := dk_29 (dk_at dksX6_meanGap_1 14 rfl rfl)
theorem dX6_meanGap_39 : decode cX6_meanGap 39 = .ok (.iadd, 1) := dk_96 (dk_at dksX6_meanGap_1 15 rfl rfl)
theorem dX6_meanGap_40 : decode cX6_meanGap 40 = .ok (.iaload, 1) := dk_46 (dk_at dksX6_meanGap_1 16 rfl rfl)
theorem dX6_meanGap_41 : decode cX6_meanGap 41 = .ok (.invokestatic 280, 3) := dk_184 1 24 (dk_at dksX6_meanGap_1 17 rfl rfl)
theorem dX6_meanGap_44 : decode cX6_meanGap 44 = .ok (.goto 4, 3) := dk_167 0 4 (dk_at dksX6_meanGap_1 20 rfl rfl)
theorem dX6_meanGap_47 : decode cX6_meanGap 47 = .ok (.iload_n 1, 1) := dk_27 (dk_at dksX6_meanGap_1 23 rfl rfl)
theorem dX6_meanGap_48 : decode cX6_meanGap 48 = .ok (.istore_n 1, 1) := dk_60 (dk_at dksX6_meanGap_2 0 rfl rfl)
theorem dX6_meanGap_49 : decode cX6_meanGap 49 = .ok (.aload_n 0, 1) := dk_42 (dk_at dksX6_meanGap_2 1 rfl rfl)
theorem dX6_meanGap_50 : decode cX6_meanGap 50 = .ok (.getfield 13, 3) := dk_180 0 13 (dk_at dksX6_meanGap_2 2 rfl rfl)
theorem dX6_meanGap_53 : decode cX6_meanGap 53 = .ok (.iconst 3, 1) := dk_6 (dk_at dksX6_meanGap_2 5 rfl rfl)
theorem dX6_meanGap_54 : decode cX6_meanGap 54 = .ok (.iload_n 3, 1) := dk_29 (dk_at dksX6_meanGap_2 6 rfl rfl)
theorem dX6_meanGap_55 : decode cX6_meanGap 55 = .ok (.iadd, 1) := dk_96 (dk_at dksX6_meanGap_2 7 rfl rfl)
theorem dX6_meanGap_56 : decode cX6_meanGap 56 = .ok (.iaload, 1) := dk_46 (dk_at dksX6_meanGap_2 8 rfl rfl)
theorem dX6_meanGap_57 : decode cX6_meanGap 57 = .ok (.iconst 1, 1) := dk_4 (dk_at dksX6_meanGap_2 9 rfl rfl)
theorem dX6_meanGap_58 : decode cX6_meanGap 58 = .ok (.if_icmp .ne 19, 3) := dk_160 0 19 (dk_at dksX6_meanGap_2 10 rfl rfl)
theorem dX6_meanGap_61 : decode cX6_meanGap 61 = .ok (.iload_n 2, 1) := dk_28 (dk_at dksX6_meanGap_2 13 rfl rfl)
theorem dX6_meanGap_62 : decode cX6_meanGap 62 = .ok (.aload_n 0, 1) := dk_42 (dk_at dksX6_meanGap_2 14 rfl rfl)
theorem dX6_meanGap_63 : decode cX6_meanGap 63 = .ok (.getfield 13, 3) := dk_180 0 13 (dk_at dksX6_meanGap_2 15 rfl rfl)
theorem dX6_meanGap_66 : decode cX6_meanGap 66 = .ok (.bipush 15, 2) := dk_16 15 (dk_at dksX6_meanGap_2 18 rfl rfl)
theorem dX6_meanGap_68 : decode cX6_meanGap 68 = .ok (.iload_n 3, 1) := dk_29 (dk_at dksX6_meanGap_2 20 rfl rfl)
theorem dX6_meanGap_69 : decode cX6_meanGap 69 = .ok (.iadd, 1) := dk_96 (dk_at dksX6_meanGap_2 21 rfl rfl)
theorem dX6_meanGap_70 : decode cX6_meanGap 70 = .ok (.iaload, 1) := dk_46 (dk_at dksX6_meanGap_2 22 rfl rfl)
theorem dX6_meanGap_71 : decode cX6_meanGap 71 = .ok (.invokestatic 283, 3) := dk_184 1 27 (dk_at dksX6_meanGap_3 0 rfl rfl)
theorem dX6_meanGap_74 : decode cX6_meanGap 74 = .ok (.goto 4, 3) := dk_167 0 4 (dk_at dksX6_meanGap_3 3 rfl rfl)
theorem dX6_meanGap_77 : decode cX6_meanGap 77 = .ok (.iload_n 2, 1) := dk_28 (dk_at dksX6_meanGap_3 6 rfl rfl)
theorem dX6_meanGap_78 : decode cX6_meanGap 78 = .ok (.istore_n 2, 1) := dk_61 (dk_at dksX6_meanGap_3 7 rfl rfl)
theorem dX6_meanGap_79 : decode cX6_meanGap 79 = .ok (.iinc 3 1, 3) := dk_132 3 1 (dk_at dksX6_meanGap_3 8 rfl rfl)
theorem dX6_meanGap_82 : decode cX6_meanGap 82 = .ok (.goto (-69), 3) := dk_167 255 187 (dk_at dksX6_meanGap_3 11 rfl rfl)
theorem dX6_meanGap_85 : decode cX6_meanGap 85 = .ok (.aload_n 0, 1) := dk_42 (dk_at dksX6_meanGap_3 14 rfl rfl)
theorem dX6_meanGap_86 : decode cX6_meanGap 86 = .ok (.getfield 13, 3) := dk_180 0 13 (dk_at dksX6_meanGap_3 15 rfl rfl)
theorem dX6_meanGap_89 : decode cX6_meanGap 89 = .ok (.invokestatic 71, 3) := dk_184 0 71 (dk_at dksX6_meanGap_3 18 rfl rfl)
theorem dX6_meanGap_92 : decode cX6_meanGap 92 = .ok (.istore_n 3, 1) := dk_62 (dk_at dksX6_meanGap_3 21 rfl rfl)
theorem dX6_meanGap_93 : decode cX6_meanGap 93 = .ok (.iload_n 3, 1) := dk_29 (dk_at dksX6_meanGap_3 22 rfl rfl)
theorem dX6_meanGap_94 : decode cX6_meanGap 94 = .ok (.iconst 2, 1) := dk_5 (dk_at dksX6_meanGap_3 23 rfl rfl)
theorem dX6_meanGap_95 : decode cX6_meanGap 95 = .ok (.if_icmp .ge 7, 3) := dk_162 0 7 (dk_at dksX6_meanGap_4 0 rfl rfl)
theorem dX6_meanGap_98 : decode cX6_meanGap 98 = .ok (.dconst 0, 1) := dk_14 (dk_at dksX6_meanGap_4 3 rfl rfl)
theorem dX6_meanGap_99 : decode cX6_meanGap 99 = .ok (.goto 12, 3) := dk_167 0 12 (dk_at dksX6_meanGap_4 4 rfl rfl)
theorem dX6_meanGap_102 : decode cX6_meanGap 102 = .ok (.iload_n 2, 1) := dk_28 (dk_at dksX6_meanGap_4 7 rfl rfl)
theorem dX6_meanGap_103 : decode cX6_meanGap 103 = .ok (.iload_n 1, 1) := dk_27 (dk_at dksX6_meanGap_4 8 rfl rfl)
theorem dX6_meanGap_104 : decode cX6_meanGap 104 = .ok (.isub, 1) := dk_100 (dk_at dksX6_meanGap_4 9 rfl rfl)
theorem dX6_meanGap_105 : decode cX6_meanGap 105 = .ok (.i2d, 1) := dk_135 (dk_at dksX6_meanGap_4 10 rfl rfl)
theorem dX6_meanGap_106 : decode cX6_meanGap 106 = .ok (.iload_n 3, 1) := dk_29 (dk_at dksX6_meanGap_4 11 rfl rfl)
theorem dX6_meanGap_107 : decode cX6_meanGap 107 = .ok (.iconst 1, 1) := dk_4 (dk_at dksX6_meanGap_4 12 rfl rfl)
theorem dX6_meanGap_108 : decode cX6_meanGap 108 = .ok (.isub, 1) := dk_100 (dk_at dksX6_meanGap_4 13 rfl rfl)
theorem dX6_meanGap_109 : decode cX6_meanGap 109 = .ok (.i2d, 1) := dk_135 (dk_at dksX6_meanGap_4 14 rfl rfl)
theorem dX6_meanGap_110 : decode cX6_meanGap 110 = .ok (.ddiv, 1) := dk_111 (dk_at dksX6_meanGap_4 15 rfl rfl)
theorem dX6_meanGap_111 : decode cX6_meanGap 111 = .ok (.dreturn, 1) := dk_175 (dk_at dksX6_meanGap_4 16 rfl rfl)
abbrev cX6_openShare : ByteArray := prog_12_method_86_code
def yX6_openShare : MethodName := ⟨RX6, "openShare", "()F"⟩
def dkwX6_openShare_1 : List UInt8 := [42, 180, 0, 13, 184, 0, 71, 134, 110, 174]
abbrev dktX6_openShare_1 : List UInt8 := dkwX6_openShare_1 ++ []
def dkwX6_openShare_0 : List UInt8 := [42, 3, 181, 0, 3, 42, 180, 0, 13, 184, 0, 71, 154, 0, 7, 11, 167, 0, 17, 42, 182, 1, 21, 134]
abbrev dktX6_openShare_0 : List UInt8 := dkwX6_openShare_0 ++ dktX6_openShare_1
theorem dksX6_openShare_0 : cX6_openShare.data.toList.drop 0 = dktX6_openShare_0 := by decide +kernel
theorem dksX6_openShare_1 : cX6_openShare.data.toList.drop 24 = dktX6_openShare_1 := dk_seg dksX6_openShare_0 24 rfl rfl
theorem dX6_openShare_0 : decode cX6_openShare 0 = .ok (.aload_n 0, 1) := dk_42 (dk_at dksX6_openShare_0 0 rfl rfl)
theorem dX6_openShare_1 : decode cX6_openShare 1 = .ok (.iconst 0, 1) := dk_3 (dk_at dksX6_openShare_0 1 rfl rfl)
theorem dX6_openShare_2 : decode cX6_openShare 2 = .ok (.putfield 3, 3) := dk_181 0 3 (dk_at dksX6_openShare_0 2 rfl rfl)
theorem dX6_openShare_5 : decode cX6_openShare 5 = .ok (.aload_n 0, 1) := dk_42 (dk_at dksX6_openShare_0 5 rfl rfl)
theorem dX6_openShare_6 : decode cX6_openShare 6 = .ok (.getfield 13, 3) := dk_180 0 13 (dk_at dksX6_openShare_0 6 rfl rfl)
theorem dX6_openShare_9 : decode cX6_openShare 9 = .ok (.invokestatic 71, 3) := dk_184 0 71 (dk_at dksX6_openShare_0 9 rfl rfl)
theorem dX6_openShare_12 : decode cX6_openShare 12 = .ok (.ifCond .ne 7, 3) := dk_154 0 7 (dk_at dksX6_openShare_0 12 rfl rfl)
theorem dX6_openShare_15 : decode cX6_openShare 15 = .ok (.fconst 0, 1) := dk_11 (dk_at dksX6_openShare_0 15 rfl rfl)
theorem dX6_openShare_16 : decode cX6_openShare 16 = .ok (.goto 17, 3) := dk_167 0 17 (dk_at dksX6_openShare_0 16 rfl rfl)
theorem dX6_openShare_19 : decode cX6_openShare 19 = .ok (.aload_n 0, 1) := dk_42 (dk_at dksX6_openShare_0 19 rfl rfl)
theorem dX6_openShare_20 : decode cX6_openShare 20 = .ok (.invokevirtual 277, 3) := dk_182 1 21 (dk_at dksX6_openShare_0 20 rfl rfl)
theorem dX6_openShare_23 : decode cX6_openShare 23 = .ok (.i2f, 1) := dk_134 (dk_at dksX6_openShare_0 23 rfl rfl)
theorem dX6_openShare_24 : decode cX6_openShare 24 = .ok (.aload_n 0, 1) := dk_42 (dk_at dksX6_openShare_1 0 rfl rfl)
theorem dX6_openShare_25 : decode cX6_openShare 25 = .ok (.getfield 13, 3) := dk_180 0 13 (dk_at dksX6_openShare_1 1 rfl rfl)
theorem dX6_openShare_28 : decode cX6_openShare 28 = .ok (.invokestatic 71, 3) := dk_184 0 71 (dk_at dksX6_openShare_1 4 rfl rfl)
theorem dX6_openShare_31 : decode cX6_openShare 31 = .ok (.i2f, 1) := dk_134 (dk_at dksX6_openShare_1 7 rfl rfl)
theorem dX6_openShare_32 : decode cX6_openShare 32 = .ok (.fdiv, 1) := dk_110 (dk_at dksX6_openShare_1 8 rfl rfl)
theorem dX6_openShare_33 : decode cX6_openShare 33 = .ok (.freturn, 1) := dk_174 (dk_at dksX6_openShare_1 9 rfl rfl)
abbrev cX6_isConsistent : ByteArray := prog_12_method_87_code
def yX6_isConsistent : MethodName := ⟨RX6, "isConsistent", "()Z"⟩
def dkwX6_isConsistent_0 : List UInt8 := [42, 3, 181, 0, 3, 42, 42, 180, 0, 13, 182, 0, 101, 172]
abbrev dktX6_isConsistent_0 : List UInt8 := dkwX6_isConsistent_0 ++ []
theorem dksX6_isConsistent_0 : cX6_isConsistent.data.toList.drop 0 = dktX6_isConsistent_0 := by decide +kernel
theorem dX6_isConsistent_0 : decode cX6_isConsistent 0 = .ok (.aload_n 0, 1) := dk_42 (dk_at dksX6_isConsistent_0 0 rfl rfl)
theorem dX6_isConsistent_1 : decode cX6_isConsistent 1 = .ok (.iconst 0, 1) := dk_3 (dk_at dksX6_isConsistent_0 1 rfl rfl)
theorem dX6_isConsistent_2 : decode cX6_isConsistent 2 = .ok (.putfield 3, 3) := dk_181 0 3 (dk_at dksX6_isConsistent_0 2 rfl rfl)
theorem dX6_isConsistent_5 : decode cX6_isConsistent 5 = .ok (.aload_n 0, 1) := dk_42 (dk_at dksX6_isConsistent_0 5 rfl rfl)
theorem dX6_isConsistent_6 : decode cX6_isConsistent 6 = .ok (.aload_n 0, 1) := dk_42 (dk_at dksX6_isConsistent_0 6 rfl rfl)
theorem dX6_isConsistent_7 : decode cX6_isConsistent 7 = .ok (.getfield 13, 3) := dk_180 0 13 (dk_at dksX6_isConsistent_0 7 rfl rfl)
theorem dX6_isConsistent_10 : decode cX6_isConsistent 10 = .ok (.invokevirtual 101, 3) := dk_182 0 101 (dk_at dksX6_isConsistent_0 10 rfl rfl)
theorem dX6_isConsistent_13 : decode cX6_isConsistent 13 = .ok (.ireturn, 1) := dk_172 (dk_at dksX6_isConsistent_0 13 rfl rfl)
abbrev cX6_chainLength : ByteArray := prog_12_method_88_code
def yX6_chainLength : MethodName := ⟨RX6, "chainLength", "()I"⟩
def dkwX6_chainLength_0 : List UInt8 := [42, 3, 181, 0, 3, 42, 42, 180, 0, 13, 182, 0, 95, 42, 180, 0, 82, 172]
abbrev dktX6_chainLength_0 : List UInt8 := dkwX6_chainLength_0 ++ []
theorem dksX6_chainLength_0 : cX6_chainLength.data.toList.drop 0 = dktX6_chainLength_0 := by decide +kernel
theorem dX6_chainLength_0 : decode cX6_chainLength 0 = .ok (.aload_n 0, 1) := dk_42 (dk_at dksX6_chainLength_0 0 rfl rfl)
theorem dX6_chainLength_1 : decode cX6_chainLength 1 = .ok (.iconst 0, 1) := dk_3 (dk_at dksX6_chainLength_0 1 rfl rfl)
theorem dX6_chainLength_2 : decode cX6_chainLength 2 = .ok (.putfield 3, 3) := dk_181 0 3 (dk_at dksX6_chainLength_0 2 rfl rfl)
theorem dX6_chainLength_5 : decode cX6_chainLength 5 = .ok (.aload_n 0, 1) := dk_42 (dk_at dksX6_chainLength_0 5 rfl rfl)
theorem dX6_chainLength_6 : decode cX6_chainLength 6 = .ok (.aload_n 0, 1) := dk_42 (dk_at dksX6_chainLength_0 6 rfl rfl)
theorem dX6_chainLength_7 : decode cX6_chainLength 7 = .ok (.getfield 13, 3) := dk_180 0 13 (dk_at dksX6_chainLength_0 7 rfl rfl)
theorem dX6_chainLength_10 : decode cX6_chainLength 10 = .ok (.invokevirtual 95, 3) := dk_182 0 95 (dk_at dksX6_chainLength_0 10 rfl rfl)
theorem dX6_chainLength_13 : decode cX6_chainLength 13 = .ok (.aload_n 0, 1) := dk_42 (dk_at dksX6_chainLength_0 13 rfl rfl)
theorem dX6_chainLength_14 : decode cX6_chainLength 14 = .ok (.getfield 82, 3) := dk_180 0 82 (dk_at dksX6_chainLength_0 14 rfl rfl)
theorem dX6_chainLength_17 : decode cX6_chainLength 17 = .ok (.ireturn, 1) := dk_172 (dk_at dksX6_chainLength_0 17 rfl rfl)
abbrev cX6_chainInn : ByteArray := prog_12_method_89_code
def yX6_chainInn : MethodName := ⟨RX6, "chainInn", "(I)I"⟩
def dkwX6_chainInn_1 : List UInt8 := [184, 0, 61, 153, 0, 12, 42, 180, 0, 34, 27, 46, 167, 0, 8, 42, 4, 182, 0, 136, 172]
abbrev dktX6_chainInn_1 : List UInt8 := dkwX6_chainInn_1 ++ []
def dkwX6_chainInn_0 : List UInt8 := [42, 3, 181, 0, 3, 42, 42, 180, 0, 13, 182, 0, 95, 27, 133, 9, 42, 180, 0, 82, 4, 100, 133]
abbrev dktX6_chainInn_0 : List UInt8 := dkwX6_chainInn_0 ++ dktX6_chainInn_1
theorem dksX6_chainInn_0 : cX6_chainInn.data.toList.drop 0 = dktX6_chainInn_0 := by decide +kernel
theorem dksX6_chainInn_1 : cX6_chainInn.data.toList.drop 23 = dktX6_chainInn_1 := dk_seg dksX6_chainInn_0 23 rfl rfl
theorem dX6_chainInn_0 : decode cX6_chainInn 0 = .ok (.aload_n 0, 1) := dk_42 (dk_at dksX6_chainInn_0 0 rfl rfl)
theorem dX6_chainInn_1 : decode cX6_chainInn 1 = .ok (.iconst 0, 1) := dk_3 (dk_at dksX6_chainInn_0 1 rfl rfl)
theorem dX6_chainInn_2 : decode cX6_chainInn 2 = .ok (.putfield 3, 3) := dk_181 0 3 (dk_at dksX6_chainInn_0 2 rfl rfl)
theorem dX6_chainInn_5 : decode cX6_chainInn 5 = .ok (.aload_n 0, 1) := dk_42 (dk_at dksX6_chainInn_0 5 rfl rfl)
theorem dX6_chainInn_6 : decode cX6_chainInn 6 = .ok (.aload_n 0, 1) := dk_42 (dk_at dksX6_chainInn_0 6 rfl rfl)
theorem dX6_chainInn_7 : decode cX6_chainInn 7 = .ok (.getfield 13, 3) := dk_180 0 13 (dk_at dksX6_chainInn_0 7 rfl rfl)
theorem dX6_chainInn_10 : decode cX6_chainInn 10 = .ok (.invokevirtual 95, 3) := dk_182 0 95 (dk_at dksX6_chainInn_0 10 rfl rfl)
theorem dX6_chainInn_13 : decode cX6_chainInn 13 = .ok (.iload_n 1, 1) := dk_27 (dk_at dksX6_chainInn_0 13 rfl rfl)
theorem dX6_chainInn_14 : decode cX6_chainInn 14 = .ok (.i2l, 1) := dk_133 (dk_at dksX6_chainInn_0 14 rfl rfl)
theorem dX6_chainInn_15 : decode cX6_chainInn 15 = .ok (.lconst 0, 1) := dk_9 (dk_at dksX6_chainInn_0 15 rfl rfl)
theorem dX6_chainInn_16 : decode cX6_chainInn 16 = .ok (.aload_n 0, 1) := dk_42 (dk_at dksX6_chainInn_0 16 rfl rfl)
theorem dX6_chainInn_17 : decode cX6_chainInn 17 = .ok (.getfield 82, 3) := dk_180 0 82 (dk_at dksX6_chainInn_0 17 rfl rfl)
theorem dX6_chainInn_20 : decode cX6_chainInn 20 = .ok (.iconst 1, 1) := dk_4 (dk_at dksX6_chainInn_0 20 rfl rfl)
theorem dX6_chainInn_21 : decode cX6_chainInn 21 = .ok (.isub, 1) := dk_100 (dk_at dksX6_chainInn_0 21 rfl rfl)
theorem dX6_chainInn_22 : decode cX6_chainInn 22 = .ok (.i2l, 1) := dk_133 (dk_at dksX6_chainInn_0 22 rfl rfl)
theorem dX6_chainInn_23 : decode cX6_chainInn 23 = .ok (.invokestatic 61, 3) := dk_184 0 61 (dk_at dksX6_chainInn_1 0 rfl rfl)
theorem dX6_chainInn_26 : decode cX6_chainInn 26 = .ok (.ifCond .eq 12, 3) := dk_153 0 12 (dk_at dksX6_chainInn_1 3 rfl rfl)
theorem dX6_chainInn_29 : decode cX6_chainInn 29 = .ok (.aload_n 0, 1) := dk_42 (dk_at dksX6_chainInn_1 6 rfl rfl)
theorem dX6_chainInn_30 : decode cX6_chainInn 30 = .ok (.getfield 34, 3) := dk_180 0 34 (dk_at dksX6_chainInn_1 7 rfl rfl)
theorem dX6_chainInn_33 : decode cX6_chainInn 33 = .ok (.iload_n 1, 1) := dk_27 (dk_at dksX6_chainInn_1 10 rfl rfl)
theorem dX6_chainInn_34 : decode cX6_chainInn 34 = .ok (.iaload, 1) := dk_46 (dk_at dksX6_chainInn_1 11 rfl rfl)
theorem dX6_chainInn_35 : decode cX6_chainInn 35 = .ok (.goto 8, 3) := dk_167 0 8 (dk_at dksX6_chainInn_1 12 rfl rfl)
theorem dX6_chainInn_38 : decode cX6_chainInn 38 = .ok (.aload_n 0, 1) := dk_42 (dk_at dksX6_chainInn_1 15 rfl rfl)
theorem dX6_chainInn_39 : decode cX6_chainInn 39 = .ok (.iconst 1, 1) := dk_4 (dk_at dksX6_chainInn_1 16 rfl rfl)
theorem dX6_chainInn_40 : decode cX6_chainInn 40 = .ok (.invokevirtual 136, 3) := dk_182 0 136 (dk_at dksX6_chainInn_1 17 rfl rfl)
theorem dX6_chainInn_43 : decode cX6_chainInn 43 = .ok (.ireturn, 1) := dk_172 (dk_at dksX6_chainInn_1 20 rfl rfl)
abbrev cX6_position : ByteArray := prog_12_method_90_code
def yX6_position : MethodName := ⟨RX6, "position", "(I)I"⟩
def dkwX6_position_1 : List UInt8 := [42, 27, 182, 0, 88, 167, 0, 8, 42, 4, 182, 0, 136, 172]
abbrev dktX6_position_1 : List UInt8 := dkwX6_position_1 ++ []
def dkwX6_position_0 : List UInt8 := [42, 3, 181, 0, 3, 42, 42, 180, 0, 13, 182, 0, 95, 42, 180, 0, 13, 27, 184, 0, 85, 153, 0, 11]
abbrev dktX6_position_0 : List UInt8 := dkwX6_position_0 ++ dktX6_position_1
theorem dksX6_position_0 : cX6_position.data.toList.drop 0 = dktX6_position_0 := by decide +kernel
theorem dksX6_position_1 : cX6_position.data.toList.drop 24 = dktX6_position_1 := dk_seg dksX6_position_0 24 rfl rfl
theorem dX6_position_0 : decode cX6_position 0 = .ok (.aload_n 0, 1) := dk_42 (dk_at dksX6_position_0 0 rfl rfl)
theorem dX6_position_1 : decode cX6_position 1 = .ok (.iconst 0, 1) := dk_3 (dk_at dksX6_position_0 1 rfl rfl)
theorem dX6_position_2 : decode cX6_position 2 = .ok (.putfield 3, 3) := dk_181 0 3 (dk_at dksX6_position_0 2 rfl rfl)
theorem dX6_position_5 : decode cX6_position 5 = .ok (.aload_n 0, 1) := dk_42 (dk_at dksX6_position_0 5 rfl rfl)
theorem dX6_position_6 : decode cX6_position 6 = .ok (.aload_n 0, 1) := dk_42 (dk_at dksX6_position_0 6 rfl rfl)
theorem dX6_position_7 : decode cX6_position 7 = .ok (.getfield 13, 3) := dk_180 0 13 (dk_at dksX6_position_0 7 rfl rfl)
theorem dX6_position_10 : decode cX6_position 10 = .ok (.invokevirtual 95, 3) := dk_182 0 95 (dk_at dksX6_position_0 10 rfl rfl)
theorem dX6_position_13 : decode cX6_position 13 = .ok (.aload_n 0, 1) := dk_42 (dk_at dksX6_position_0 13 rfl rfl)
theorem dX6_position_14 : decode cX6_position 14 = .ok (.getfield 13, 3) := dk_180 0 13 (dk_at dksX6_position_0 14 rfl rfl)
theorem dX6_position_17 : decode cX6_position 17 = .ok (.iload_n 1, 1) := dk_27 (dk_at dksX6_position_0 17 rfl rfl)
theorem dX6_position_18 : decode cX6_position 18 = .ok (.invokestatic 85, 3) := dk_184 0 85 (dk_at dksX6_position_0 18 rfl rfl)
theorem dX6_position_21 : decode cX6_position 21 = .ok (.ifCond .eq 11, 3) := dk_153 0 11 (dk_at dksX6_position_0 21 rfl rfl)
theorem dX6_position_24 : decode cX6_position 24 = .ok (.aload_n 0, 1) := dk_42 (dk_at dksX6_position_1 0 rfl rfl)
theorem dX6_position_25 : decode cX6_position 25 = .ok (.iload_n 1, 1) := dk_27 (dk_at dksX6_position_1 1 rfl rfl)
theorem dX6_position_26 : decode cX6_position 26 = .ok (.invokevirtual 88, 3) := dk_182 0 88 (dk_at dksX6_position_1 2 rfl rfl)
theorem dX6_position_29 : decode cX6_position 29 = .ok (.goto 8, 3) := dk_167 0 8 (dk_at dksX6_position_1 5 rfl rfl)
theorem dX6_position_32 : decode cX6_position 32 = .ok (.aload_n 0, 1) := dk_42 (dk_at dksX6_position_1 8 rfl rfl)
theorem dX6_position_33 : decode cX6_position 33 = .ok (.iconst 1, 1) := dk_4 (dk_at dksX6_position_1 9 rfl rfl)
theorem dX6_position_34 : decode cX6_position 34 = .ok (.invokevirtual 136, 3) := dk_182 0 136 (dk_at dksX6_position_1 10 rfl rfl)
theorem dX6_position_37 : decode cX6_position 37 = .ok (.ireturn, 1) := dk_172 (dk_at dksX6_position_1 13 rfl rfl)
abbrev cX6_hasCycle : ByteArray := prog_12_method_91_code
def yX6_hasCycle : MethodName := ⟨RX6, "hasCycle", "()Z"⟩
def dkwX6_hasCycle_1 : List UInt8 := [172]
abbrev dktX6_hasCycle_1 : List UInt8 := dkwX6_hasCycle_1 ++ []
def dkwX6_hasCycle_0 : List UInt8 := [42, 3, 181, 0, 3, 42, 42, 180, 0, 13, 182, 0, 95, 42, 180, 0, 13, 42, 180, 0, 92, 184, 0, 85]
abbrev dktX6_hasCycle_0 : List UInt8 := dkwX6_hasCycle_0 ++ dktX6_hasCycle_1
theorem dksX6_hasCycle_0 : cX6_hasCycle.data.toList.drop 0 = dktX6_hasCycle_0 := by decide +kernel
theorem dksX6_hasCycle_1 : cX6_hasCycle.data.toList.drop 24 = dktX6_hasCycle_1 := dk_seg dksX6_hasCycle_0 24 rfl rfl
theorem dX6_hasCycle_0 : decode cX6_hasCycle 0 = .ok (.aload_n 0, 1) := dk_42 (dk_at dksX6_hasCycle_0 0 rfl rfl)
theorem dX6_hasCycle_1 : decode cX6_hasCycle 1 = .ok (.iconst 0, 1) := dk_3 (dk_at dksX6_hasCycle_0 1 rfl rfl)
theorem dX6_hasCycle_2 : decode cX6_hasCycle 2 = .ok (.putfield 3, 3) := dk_181 0 3 (dk_at dksX6_hasCycle_0 2 rfl rfl)
theorem dX6_hasCycle_5 : decode cX6_hasCycle 5 = .ok (.aload_n 0, 1) := dk_42 (dk_at dksX6_hasCycle_0 5 rfl rfl)
theorem dX6_hasCycle_6 : decode cX6_hasCycle 6 = .ok (.aload_n 0, 1) := dk_42 (dk_at dksX6_hasCycle_0 6 rfl rfl)
theorem dX6_hasCycle_7 : decode cX6_hasCycle 7 = .ok (.getfield 13, 3) := dk_180 0 13 (dk_at dksX6_hasCycle_0 7 rfl rfl)
theorem dX6_hasCycle_10 : decode cX6_hasCycle 10 = .ok (.invokevirtual 95, 3) := dk_182 0 95 (dk_at dksX6_hasCycle_0 10 rfl rfl)
theorem dX6_hasCycle_13 : decode cX6_hasCycle 13 = .ok (.aload_n 0, 1) := dk_42 (dk_at dksX6_hasCycle_0 13 rfl rfl)
theorem dX6_hasCycle_14 : decode cX6_hasCycle 14 = .ok (.getfield 13, 3) := dk_180 0 13 (dk_at dksX6_hasCycle_0 14 rfl rfl)
theorem dX6_hasCycle_17 : decode cX6_hasCycle 17 = .ok (.aload_n 0, 1) := dk_42 (dk_at dksX6_hasCycle_0 17 rfl rfl)
theorem dX6_hasCycle_18 : decode cX6_hasCycle 18 = .ok (.getfield 92, 3) := dk_180 0 92 (dk_at dksX6_hasCycle_0 18 rfl rfl)
theorem dX6_hasCycle_21 : decode cX6_hasCycle 21 = .ok (.invokestatic 85, 3) := dk_184 0 85 (dk_at dksX6_hasCycle_0 21 rfl rfl)
theorem dX6_hasCycle_24 : decode cX6_hasCycle 24 = .ok (.ireturn, 1) := dk_172 (dk_at dksX6_hasCycle_1 0 rfl rfl)
abbrev cX6_danglingPointers : ByteArray := prog_12_method_93_code
def yX6_danglingPointers : MethodName := ⟨RX6, "danglingPointers", "()I"⟩
def dkwX6_danglingPointers_3 : List UInt8 := [96, 46, 182, 1, 30, 96, 167, 0, 4, 3, 96, 60, 132, 2, 1, 167, 255, 201, 27, 172]
abbrev dktX6_danglingPointers_3 : List UInt8 := dkwX6_danglingPointers_3 ++ []
def dkwX6_danglingPointers_2 : List UInt8 := [160, 0, 33, 42, 42, 180, 0, 13, 16, 54, 28, 96, 46, 182, 1, 30, 42, 42, 180, 0, 13, 16, 66, 28]
abbrev dktX6_danglingPointers_2 : List UInt8 := dkwX6_danglingPointers_2 ++ dktX6_danglingPointers_3
def dkwX6_danglingPointers_1 : List UInt8 := [182, 1, 30, 96, 60, 3, 61, 28, 16, 12, 162, 0, 55, 27, 42, 180, 0, 13, 6, 28, 96, 46, 4]
abbrev dktX6_danglingPointers_1 : List UInt8 := dkwX6_danglingPointers_1 ++ dktX6_danglingPointers_2
def dkwX6_danglingPointers_0 : List UInt8 := [42, 3, 181, 0, 3, 42, 42, 180, 0, 13, 16, 51, 46, 182, 1, 30, 42, 42, 180, 0, 13, 16, 52, 46]
abbrev dktX6_danglingPointers_0 : List UInt8 := dkwX6_danglingPointers_0 ++ dktX6_danglingPointers_1
theorem dksX6_danglingPointers_0 : cX6_danglingPointers.data.toList.drop 0 = dktX6_danglingPointers_0 := by decide +kernel
theorem dksX6_danglingPointers_1 : cX6_danglingPointers.data.toList.drop 24 = dktX6_danglingPointers_1 := dk_seg dksX6_danglingPointers_0 24 rfl rfl
theorem dksX6_danglingPointers_2 : cX6_danglingPointers.data.toList.drop 47 = dktX6_danglingPointers_2 := dk_seg dksX6_danglingPointers_1 23 rfl rfl
theorem dksX6_danglingPointers_3 : cX6_danglingPointers.data.toList.drop 71 = dktX6_danglingPointers_3 := dk_seg dksX6_danglingPointers_2 24 rfl rfl
theorem dX6_danglingPointers_0 : decode cX6_danglingPointers 0 = .ok (.aload_n 0, 1) := dk_42 (dk_at dksX6_danglingPointers_0 0 rfl rfl)
theorem dX6_danglingPointers_1 : decode cX6_danglingPointers 1 = .ok (.iconst 0, 1) := dk_3 (dk_at dksX6_danglingPointers_0 1 rfl rfl)
theorem dX6_danglingPointers_2 : decode cX6_danglingPointers 2 = .ok (.putfield 3, 3) := dk_181 0 3 (dk_at dksX6_danglingPointers_0 2 rfl rfl)
theorem dX6_danglingPointers_5 : decode cX6_danglingPointers 5 = .ok (.aload_n 0, 1) := dk_42 (dk_at dksX6_danglingPointers_0 5 rfl rfl)
theorem dX6_danglingPointers_6 : decode cX6_danglingPointers 6 = .ok (.aload_n 0, 1) := dk_42 (dk_at dksX6_danglingPointers_0 6 rfl rfl)
theorem dX6_danglingPointers_7 : decode cX6_danglingPointers 7 = .ok (.getfield 13, 3) := dk_180 0 13 (dk_at dksX6_danglingPointers_0 7 rfl rfl)
theorem dX6_danglingPointers_10 : decode cX6_danglingPointers 10 = .ok (.bipush 51, 2) := dk_16 51 (dk_at dksX6_danglingPointers_0 10 rfl rfl)
theorem dX6_danglingPointers_12 : decode cX6_danglingPointers 12 = .ok (.iaload, 1) := dk_46 (dk_at dksX6_danglingPointers_0 12 rfl rfl)
theorem dX6_danglingPointers_13 : decode cX6_danglingPointers 13 = .ok (.invokevirtual 286, 3) := dk_182 1 30 (dk_at dksX6_danglingPointers_0 13 rfl rfl)
theorem dX6_danglingPointers_16 : decode cX6_danglingPointers 16 = .ok (.aload_n 0, 1) := dk_42 (dk_at dksX6_danglingPointers_0 16 rfl rfl)
theorem dX6_danglingPointers_17 : decode cX6_danglingPointers 17 = .ok (.aload_n 0, 1) := dk_42 (dk_at dksX6_danglingPointers_0 17 rfl rfl)
theorem dX6_danglingPointers_18 : decode cX6_danglingPointers 18 = .ok (.getfield 13, 3) := dk_180 0 13 (dk_at dksX6_danglingPointers_0 18 rfl rfl)
theorem dX6_danglingPointers_21 : decode cX6_danglingPointers 21 = .ok (.bipush 52, 2) := dk_16 52 (dk_at dksX6_danglingPointers_0 21 rfl rfl)
theorem dX6_danglingPointers_23 : decode cX6_danglingPointers 23 = .ok (.iaload, 1) := dk_46 (dk_at dksX6_danglingPointers_0 23 rfl rfl)
theorem dX6_danglingPointers_24 : decode cX6_danglingPointers 24 = .ok (.invokevirtual 286, 3) := dk_182 1 30 (dk_at dksX6_danglingPointers_1 0 rfl rfl)
theorem dX6_danglingPointers_27 : decode cX6_danglingPointers 27 = .ok (.iadd, 1) := dk_96 (dk_at dksX6_danglingPointers_1 3 rfl rfl)
theorem dX6_danglingPointers_28 : decode cX6_danglingPointers 28 = .ok (.istore_n 1, 1) := dk_60 (dk_at dksX6_danglingPointers_1 4 rfl rfl)
theorem dX6_danglingPointers_29 : decode cX6_danglingPointers 29 = .ok (.iconst 0, 1) := dk_3 (dk_at dksX6_danglingPointers_1 5 rfl rfl)
theorem dX6_danglingPointers_30 : decode cX6_danglingPointers 30 = .ok (.istore_n 2, 1) := dk_61 (dk_at dksX6_danglingPointers_1 6 rfl rfl)
theorem dX6_danglingPointers_31 : decode cX6_danglingPointers 31 = .ok (.iload_n 2, 1) := dk_28 (dk_at dksX6_danglingPointers_1 7 rfl rfl)
theorem dX6_danglingPointers_32 : decode cX6_danglingPointers 32 = .ok (.bipush 12, 2) := dk_16 12 (dk_at dksX6_danglingPointers_1 8 rfl rfl)
theorem dX6_danglingPointers_34 : decode cX6_danglingPointers 34 = .ok (.if_icmp .ge 55, 3) := dk_162 0 55 (dk_at dksX6_danglingPointers_1 10 rfl rfl)
theorem dX6_danglingPointers_37 : decode cX6_danglingPointers 37 = .ok (.iload_n 1, 1) := dk_27 (dk_at dksX6_danglingPointers_1 13 rfl rfl)
theorem dX6_danglingPointers_38 : decode cX6_danglingPointers 38 = .ok (.aload_n 0, 1) := dk_42 (dk_at dksX6_danglingPointers_1 14 rfl rfl)
theorem dX6_danglingPointers_39 : decode cX6_danglingPointers 39 = .ok (.getfield 13, 3) := dk_180 0 13 (dk_at dksX6_danglingPointers_1 15 rfl rfl)
theorem dX6_danglingPointers_42 : decode cX6_danglingPointers 42 = .ok (.iconst 3, 1) := dk_6 (dk_at dksX6_danglingPointers_1 18 rfl rfl)
theorem dX6_danglingPointers_43 : decode cX6_danglingPointers 43 = .ok (.iload_n 2, 1) := dk_28 (dk_at dksX6_danglingPointers_1 19 rfl rfl)
theorem dX6_danglingPointers_44 : decode cX6_danglingPointers 44 = .ok (.iadd, 1) := dk_96 (dk_at dksX6_danglingPointers_1 20 rfl rfl)
theorem dX6_danglingPointers_45 : decode cX6_danglingPointers 45 = .ok (.iaload, 1) := dk_46 (dk_at dksX6_danglingPointers_1 21 rfl rfl)
theorem dX6_danglingPointers_46 : decode cX6_danglingPointers 46 = .ok (.iconst 1, 1) := dk_4 (dk_at dksX6_danglingPointers_1 22 rfl rfl)
theorem dX6_danglingPointers_47 : decode cX6_danglingPointers 47 = .ok (.if_icmp .ne 33, 3) := dk_160 0 33 (dk_at dksX6_danglingPointers_2 0 rfl rfl)
theorem dX6_danglingPointers_50 : decode cX6_danglingPointers 50 = .ok (.aload_n 0, 1) := dk_42 (dk_at dksX6_danglingPointers_2 3 rfl rfl)
theorem dX6_danglingPointers_51 : decode cX6_danglingPointers 51 = .ok (.aload_n 0, 1) := dk_42 (dk_at dksX6_danglingPointers_2 4 rfl rfl)
theorem dX6_danglingPointers_52 : decode cX6_danglingPointers 52 = .ok (.getfield 13, 3) := dk_180 0 13 (dk_at dksX6_danglingPointers_2 5 rfl rfl)
theorem dX6_danglingPointers_55 : decode cX6_danglingPointers 55 = .ok (.bipush 54, 2) := dk_16 54 (dk_at dksX6_danglingPointers_2 8 rfl rfl)
theorem dX6_danglingPointers_57 : decode cX6_danglingPointers 57 = .ok (.iload_n 2, 1) := dk_28 (dk_at dksX6_danglingPointers_2 10 rfl rfl)
theorem dX6_danglingPointers_58 : decode cX6_danglingPointers 58 = .ok (.iadd, 1) := dk_96 (dk_at dksX6_danglingPointers_2 11 rfl rfl)
theorem dX6_danglingPointers_59 : decode cX6_danglingPointers 59 = .ok (.iaload, 1) := dk_46 (dk_at dksX6_danglingPointers_2 12 rfl rfl)
theorem dX6_danglingPointers_60 : decode cX6_danglingPointers 60 = .ok (.invokevirtual 286, 3) := dk_182 1 30 (dk_at dksX6_danglingPointers_2 13 rfl rfl)
theorem dX6_danglingPointers_63 : decode cX6_danglingPointers 63 = .ok (.aload_n 0, 1) := dk_42 (dk_at dksX6_danglingPointers_2 16 rfl rfl)
theorem dX6_danglingPointers_64 : decode cX6_danglingPointers 64 = .ok (.aload_n 0, 1) := dk_42 (dk_at dksX6_danglingPointers_2 17 rfl rfl)
theorem dX6_danglingPointers_65 : decode cX6_danglingPointers 65 = .ok (.getfield 13, 3) := dk_180 0 13 (dk_at dksX6_danglingPointers_2 18 rfl rfl)
theorem dX6_danglingPointers_68 : decode cX6_danglingPointers 68 = .ok (.bipush 66, 2) := dk_16 66 (dk_at dksX6_danglingPointers_2 21 rfl rfl)
theorem dX6_danglingPointers_70 : decode cX6_danglingPointers 70 = .ok (.iload_n 2, 1) := dk_28 (dk_at dksX6_danglingPointers_2 23 rfl rfl)
theorem dX6_danglingPointers_71 : decode cX6_danglingPointers 71 = .ok (.iadd, 1) := dk_96 (dk_at dksX6_danglingPointers_3 0 rfl rfl)
theorem dX6_danglingPointers_72 : decode cX6_danglingPointers 72 = .ok (.iaload, 1) := dk_46 (dk_at dksX6_danglingPointers_3 1 rfl rfl)
theorem dX6_danglingPointers_73 : decode cX6_danglingPointers 73 = .ok (.invokevirtual 286, 3) := dk_182 1 30 (dk_at dksX6_danglingPointers_3 2 rfl rfl)
theorem dX6_danglingPointers_76 : decode cX6_danglingPointers 76 = .ok (.iadd, 1) := dk_96 (dk_at dksX6_danglingPointers_3 5 rfl rfl)
theorem dX6_danglingPointers_77 : decode cX6_danglingPointers 77 = .ok (.goto 4, 3) := dk_167 0 4 (dk_at dksX6_danglingPointers_3 6 rfl rfl)
theorem dX6_danglingPointers_80 : decode cX6_danglingPointers 80 = .ok (.iconst 0, 1) := dk_3 (dk_at dksX6_danglingPointers_3 9 rfl rfl)
theorem dX6_danglingPointers_81 : decode cX6_danglingPointers 81 = .ok (.iadd, 1) := dk_96 (dk_at dksX6_danglingPointers_3 10 rfl rfl)
theorem dX6_danglingPointers_82 : decode cX6_danglingPointers 82 = .ok (.istore_n 1, 1) := dk_60 (dk_at dksX6_danglingPointers_3 11 rfl rfl)
theorem dX6_danglingPointers_83 : decode cX6_danglingPointers 83 = .ok (.iinc 2 1, 3) := dk_132 2 1 (dk_at dksX6_danglingPointers_3 12 rfl rfl)
theorem dX6_danglingPointers_86 : decode cX6_danglingPointers 86 = .ok (.goto (-55), 3) := dk_167 255 201 (dk_at dksX6_danglingPointers_3 15 rfl rfl)
theorem dX6_danglingPointers_89 : decode cX6_danglingPointers 89 = .ok (.iload_n 1, 1) := dk_27 (dk_at dksX6_danglingPointers_3 18 rfl rfl)
theorem dX6_danglingPointers_90 : decode cX6_danglingPointers 90 = .ok (.ireturn, 1) := dk_172 (dk_at dksX6_danglingPointers_3 19 rfl rfl)
abbrev cX6_dangles : ByteArray := prog_12_method_92_code
def yX6_dangles : MethodName := ⟨RX6, "dangles", "(I)I"⟩
def dkwX6_dangles_0 : List UInt8 := [27, 2, 159, 0, 18, 42, 180, 0, 13, 27, 184, 0, 85, 154, 0, 7, 4, 167, 0, 4, 3, 172]
abbrev dktX6_dangles_0 : List UInt8 := dkwX6_dangles_0 ++ []
theorem dksX6_dangles_0 : cX6_dangles.data.toList.drop 0 = dktX6_dangles_0 := by decide +kernel
theorem dX6_dangles_0 : decode cX6_dangles 0 = .ok (.iload_n 1, 1) := dk_27 (dk_at dksX6_dangles_0 0 rfl rfl)
theorem dX6_dangles_1 : decode cX6_dangles 1 = .ok (.iconst (-1), 1) := dk_2 (dk_at dksX6_dangles_0 1 rfl rfl)
theorem dX6_dangles_2 : decode cX6_dangles 2 = .ok (.if_icmp .eq 18, 3) := dk_159 0 18 (dk_at dksX6_dangles_0 2 rfl rfl)
theorem dX6_dangles_5 : decode cX6_dangles 5 = .ok (.aload_n 0, 1) := dk_42 (dk_at dksX6_dangles_0 5 rfl rfl)
theorem dX6_dangles_6 : decode cX6_dangles 6 = .ok (.getfield 13, 3) := dk_180 0 13 (dk_at dksX6_dangles_0 6 rfl rfl)
theorem dX6_dangles_9 : decode cX6_dangles 9 = .ok (.iload_n 1, 1) := dk_27 (dk_at dksX6_dangles_0 9 rfl rfl)
theorem dX6_dangles_10 : decode cX6_dangles 10 = .ok (.invokestatic 85, 3) := dk_184 0 85 (dk_at dksX6_dangles_0 10 rfl rfl)
theorem dX6_dangles_13 : decode cX6_dangles 13 = .ok (.ifCond .ne 7, 3) := dk_154 0 7 (dk_at dksX6_dangles_0 13 rfl rfl)
theorem dX6_dangles_16 : decode cX6_dangles 16 = .ok (.iconst 1, 1) := dk_4 (dk_at dksX6_dangles_0 16 rfl rfl)
theorem dX6_dangles_17 : decode cX6_dangles 17 = .ok (.goto 4, 3) := dk_167 0 4 (dk_at dksX6_dangles_0 17 rfl rfl)
theorem dX6_dangles_20 : decode cX6_dangles 20 = .ok (.iconst 0, 1) := dk_3 (dk_at dksX6_dangles_0 20 rfl rfl)
theorem dX6_dangles_21 : decode cX6_dangles 21 = .ok (.ireturn, 1) := dk_172 (dk_at dksX6_dangles_0 21 rfl rfl)
abbrev cX6_wrongValues : ByteArray := prog_12_method_94_code
def yX6_wrongValues : MethodName := ⟨RX6, "wrongValues", "()I"⟩
def dkwX6_wrongValues_0 : List UInt8 := [42, 3, 181, 0, 3, 42, 182, 1, 6, 172]
abbrev dktX6_wrongValues_0 : List UInt8 := dkwX6_wrongValues_0 ++ []
theorem dksX6_wrongValues_0 : cX6_wrongValues.data.toList.drop 0 = dktX6_wrongValues_0 := by decide +kernel
theorem dX6_wrongValues_0 : decode cX6_wrongValues 0 = .ok (.aload_n 0, 1) := dk_42 (dk_at dksX6_wrongValues_0 0 rfl rfl)
theorem dX6_wrongValues_1 : decode cX6_wrongValues 1 = .ok (.iconst 0, 1) := dk_3 (dk_at dksX6_wrongValues_0 1 rfl rfl)
theorem dX6_wrongValues_2 : decode cX6_wrongValues 2 = .ok (.putfield 3, 3) := dk_181 0 3 (dk_at dksX6_wrongValues_0 2 rfl rfl)
theorem dX6_wrongValues_5 : decode cX6_wrongValues 5 = .ok (.aload_n 0, 1) := dk_42 (dk_at dksX6_wrongValues_0 5 rfl rfl)
theorem dX6_wrongValues_6 : decode cX6_wrongValues 6 = .ok (.invokevirtual 262, 3) := dk_182 1 6 (dk_at dksX6_wrongValues_0 6 rfl rfl)
theorem dX6_wrongValues_9 : decode cX6_wrongValues 9 = .ok (.ireturn, 1) := dk_172 (dk_at dksX6_wrongValues_0 9 rfl rfl)
abbrev cX6_descents : ByteArray := prog_12_method_95_code
def yX6_descents : MethodName := ⟨RX6, "descents", "()I"⟩
def dkwX6_descents_3 : List UInt8 := [167, 255, 204, 27, 172]
abbrev dktX6_descents_3 : List UInt8 := dkwX6_descents_3 ++ []
def dkwX6_descents_2 : List UInt8 := [42, 180, 0, 34, 28, 4, 100, 46, 96, 46, 162, 0, 7, 4, 167, 0, 4, 3, 96, 60, 132, 2, 1]
abbrev dktX6_descents_2 : List UInt8 := dkwX6_descents_2 ++ dktX6_descents_3
def dkwX6_descents_1 : List UInt8 := [162, 0, 50, 27, 42, 180, 0, 13, 16, 15, 42, 180, 0, 34, 28, 46, 96, 46, 42, 180, 0, 13, 16, 15]
abbrev dktX6_descents_1 : List UInt8 := dkwX6_descents_1 ++ dktX6_descents_2
def dkwX6_descents_0 : List UInt8 := [42, 3, 181, 0, 3, 42, 42, 180, 0, 13, 182, 0, 95, 3, 60, 4, 61, 28, 42, 180, 0, 82]
abbrev dktX6_descents_0 : List UInt8 := dkwX6_descents_0 ++ dktX6_descents_1
theorem dksX6_descents_0 : cX6_descents.data.toList.drop 0 = dktX6_descents_0 := by decide +kernel
theorem dksX6_descents_1 : cX6_descents.data.toList.drop 22 = dktX6_descents_1 := dk_seg dksX6_descents_0 22 rfl rfl
theorem dksX6_descents_2 : cX6_descents.data.toList.drop 46 = dktX6_descents_2 := dk_seg dksX6_descents_1 24 rfl rfl
theorem dksX6_descents_3 : cX6_descents.data.toList.drop 69 = dktX6_descents_3 := dk_seg dksX6_descents_2 23 rfl rfl
theorem dX6_descents_0 : decode cX6_descents 0 = .ok (.aload_n 0, 1) := dk_42 (dk_at dksX6_descents_0 0 rfl rfl)
theorem dX6_descents_1 : decode cX6_descents 1 = .ok (.iconst 0, 1) := dk_3 (dk_at dksX6_descents_0 1 rfl rfl)
theorem dX6_descents_2 : decode cX6_descents 2 = .ok (.putfield 3, 3) := dk_181 0 3 (dk_at dksX6_descents_0 2 rfl rfl)
theorem dX6_descents_5 : decode cX6_descents 5 = .ok (.aload_n 0, 1) := dk_42 (dk_at dksX6_descents_0 5 rfl rfl)
theorem dX6_descents_6 : decode cX6_descents 6 = .ok (.aload_n 0, 1) := dk_42 (dk_at dksX6_descents_0 6 rfl rfl)
theorem dX6_descents_7 : decode cX6_descents 7 = .ok (.getfield 13, 3) := dk_180 0 13 (dk_at dksX6_descents_0 7 rfl rfl)
theorem dX6_descents_10 : decode cX6_descents 10 = .ok (.invokevirtual 95, 3) := dk_182 0 95 (dk_at dksX6_descents_0 10 rfl rfl)
theorem dX6_descents_13 : decode cX6_descents 13 = .ok (.iconst 0, 1) := dk_3 (dk_at dksX6_descents_0 13 rfl rfl)
theorem dX6_descents_14 : decode cX6_descents 14 = .ok (.istore_n 1, 1) := dk_60 (dk_at dksX6_descents_0 14 rfl rfl)
theorem dX6_descents_15 : decode cX6_descents 15 = .ok (.iconst 1, 1) := dk_4 (dk_at dksX6_descents_0 15 rfl rfl)
theorem dX6_descents_16 : decode cX6_descents 16 = .ok (.istore_n 2, 1) := dk_61 (dk_at dksX6_descents_0 16 rfl rfl)
theorem dX6_descents_17 : decode cX6_descents 17 = .ok (.iload_n 2, 1) := dk_28 (dk_at dksX6_descents_0 17 rfl rfl)
theorem dX6_descents_18 : decode cX6_descents 18 = .ok (.aload_n 0, 1) := dk_42 (dk_at dksX6_descents_0 18 rfl rfl)
theorem dX6_descents_19 : decode cX6_descents 19 = .ok (.getfield 82, 3) := dk_180 0 82 (dk_at dksX6_descents_0 19 rfl rfl)
theorem dX6_descents_22 : decode cX6_descents 22 = .ok (.if_icmp .ge 50, 3) := dk_162 0 50 (dk_at dksX6_descents_1 0 rfl rfl)
theorem dX6_descents_25 : decode cX6_descents 25 = .ok (.iload_n 1, 1) := dk_27 (dk_at dksX6_descents_1 3 rfl rfl)
theorem dX6_descents_26 : decode cX6_descents 26 = .ok (.aload_n 0, 1) := dk_42 (dk_at dksX6_descents_1 4 rfl rfl)
theorem dX6_descents_27 : decode cX6_descents 27 = .ok (.getfield 13, 3) := dk_180 0 13 (dk_at dksX6_descents_1 5 rfl rfl)
theorem dX6_descents_30 : decode cX6_descents 30 = .ok (.bipush 15, 2) := dk_16 15 (dk_at dksX6_descents_1 8 rfl rfl)
theorem dX6_descents_32 : decode cX6_descents 32 = .ok (.aload_n 0, 1) := dk_42 (dk_at dksX6_descents_1 10 rfl rfl)
theorem dX6_descents_33 : decode cX6_descents 33 = .ok (.getfield 34, 3) := dk_180 0 34 (dk_at dksX6_descents_1 11 rfl rfl)
theorem dX6_descents_36 : decode cX6_descents 36 = .ok (.iload_n 2, 1) := dk_28 (dk_at dksX6_descents_1 14 rfl rfl)
theorem dX6_descents_37 : decode cX6_descents 37 = .ok (.iaload, 1) := dk_46 (dk_at dksX6_descents_1 15 rfl rfl)
theorem dX6_descents_38 : decode cX6_descents 38 = .ok (.iadd, 1) := dk_96 (dk_at dksX6_descents_1 16 rfl rfl)
theorem dX6_descents_39 : decode cX6_descents 39 = .ok (.iaload, 1) := dk_46 (dk_at dksX6_descents_1 17 rfl rfl)
theorem dX6_descents_40 : decode cX6_descents 40 = .ok (.aload_n 0, 1) := dk_42 (dk_at dksX6_descents_1 18 rfl rfl)
theorem dX6_descents_41 : decode cX6_descents 41 = .ok (.getfield 13, 3) := dk_180 0 13 (dk_at dksX6_descents_1 19 rfl rfl)
theorem dX6_descents_44 : decode cX6_descents 44 = .ok (.bipush 15, 2) := dk_16 15 (dk_at dksX6_descents_1 22 rfl rfl)
theorem dX6_descents_46 : decode cX6_descents 46 = .ok (.aload_n 0, 1) := dk_42 (dk_at dksX6_descents_2 0 rfl rfl)
theorem dX6_descents_47 : decode cX6_descents 47 = .ok (.getfield 34, 3) := dk_180 0 34 (dk_at dksX6_descents_2 1 rfl rfl)
theorem dX6_descents_50 : decode cX6_descents 50 = .ok (.iload_n 2, 1) := dk_28 (dk_at dksX6_descents_2 4 rfl rfl)
theorem dX6_descents_51 : decode cX6_descents 51 = .ok (.iconst 1, 1) := dk_4 (dk_at dksX6_descents_2 5 rfl rfl)
theorem dX6_descents_52 : decode cX6_descents 52 = .ok (.isub, 1) := dk_100 (dk_at dksX6_descents_2 6 rfl rfl)
theorem dX6_descents_53 : decode cX6_descents 53 = .ok (.iaload, 1) := dk_46 (dk_at dksX6_descents_2 7 rfl rfl)
theorem dX6_descents_54 : decode cX6_descents 54 = .ok (.iadd, 1) := dk_96 (dk_at dksX6_descents_2 8 rfl rfl)
theorem dX6_descents_55 : decode cX6_descents 55 = .ok (.iaload, 1) := dk_46 (dk_at dksX6_descents_2 9 rfl rfl)
theorem dX6_descents_56 : decode cX6_descents 56 = .ok (.if_icmp .ge 7, 3) := dk_162 0 7 (dk_at dksX6_descents_2 10 rfl rfl)
theorem dX6_descents_59 : decode cX6_descents 59 = .ok (.iconst 1, 1) := dk_4 (dk_at dksX6_descents_2 13 rfl rfl)
theorem dX6_descents_60 : decode cX6_descents 60 = .ok (.goto 4, 3) := dk_167 0 4 (dk_at dksX6_descents_2 14 rfl rfl)
theorem dX6_descents_63 : decode cX6_descents 63 = .ok (.iconst 0, 1) := dk_3 (dk_at dksX6_descents_2 17 rfl rfl)
theorem dX6_descents_64 : decode cX6_descents 64 = .ok (.iadd, 1) := dk_96 (dk_at dksX6_descents_2 18 rfl rfl)
theorem dX6_descents_65 : decode cX6_descents 65 = .ok (.istore_n 1, 1) := dk_60 (dk_at dksX6_descents_2 19 rfl rfl)
theorem dX6_descents_66 : decode cX6_descents 66 = .ok (.iinc 2 1, 3) := dk_132 2 1 (dk_at dksX6_descents_2 20 rfl rfl)
theorem dX6_descents_69 : decode cX6_descents 69 = .ok (.goto (-52), 3) := dk_167 255 204 (dk_at dksX6_descents_3 0 rfl rfl)
theorem dX6_descents_72 : decode cX6_descents 72 = .ok (.iload_n 1, 1) := dk_27 (dk_at dksX6_descents_3 3 rfl rfl)
theorem dX6_descents_73 : decode cX6_descents 73 = .ok (.ireturn, 1) := dk_172 (dk_at dksX6_descents_3 4 rfl rfl)
abbrev cX6_hasSingleFault : ByteArray := prog_12_method_96_code
def yX6_hasSingleFault : MethodName := ⟨RX6, "hasSingleFault", "()Z"⟩
def dkwX6_hasSingleFault_0 : List UInt8 := [42, 3, 181, 0, 3, 42, 182, 1, 3, 2, 159, 0, 7, 4, 167, 0, 4, 3, 172]
abbrev dktX6_hasSingleFault_0 : List UInt8 := dkwX6_hasSingleFault_0 ++ []
theorem dksX6_hasSingleFault_0 : cX6_hasSingleFault.data.toList.drop 0 = dktX6_hasSingleFault_0 := by decide +kernel
theorem dX6_hasSingleFault_0 : decode cX6_hasSingleFault 0 = .ok (.aload_n 0, 1) := dk_42 (dk_at dksX6_hasSingleFault_0 0 rfl rfl)
theorem dX6_hasSingleFault_1 : decode cX6_hasSingleFault 1 = .ok (.iconst 0, 1) := dk_3 (dk_at dksX6_hasSingleFault_0 1 rfl rfl)
theorem dX6_hasSingleFault_2 : decode cX6_hasSingleFault 2 = .ok (.putfield 3, 3) := dk_181 0 3 (dk_at dksX6_hasSingleFault_0 2 rfl rfl)
theorem dX6_hasSingleFault_5 : decode cX6_hasSingleFault 5 = .ok (.aload_n 0, 1) := dk_42 (dk_at dksX6_hasSingleFault_0 5 rfl rfl)
theorem dX6_hasSingleFault_6 : decode cX6_hasSingleFault 6 = .ok (.invokevirtual 259, 3) := dk_182 1 3 (dk_at dksX6_hasSingleFault_0 6 rfl rfl)
theorem dX6_hasSingleFault_9 : decode cX6_hasSingleFault 9 = .ok (.iconst (-1), 1) := dk_2 (dk_at dksX6_hasSingleFault_0 9 rfl rfl)
theorem dX6_hasSingleFault_10 : decode cX6_hasSingleFault 10 = .ok (.if_icmp .eq 7, 3) := dk_159 0 7 (dk_at dksX6_hasSingleFault_0 10 rfl rfl)
theorem dX6_hasSingleFault_13 : decode cX6_hasSingleFault 13 = .ok (.iconst 1, 1) := dk_4 (dk_at dksX6_hasSingleFault_0 13 rfl rfl)
theorem dX6_hasSingleFault_14 : decode cX6_hasSingleFault 14 = .ok (.goto 4, 3) := dk_167 0 4 (dk_at dksX6_hasSingleFault_0 14 rfl rfl)
theorem dX6_hasSingleFault_17 : decode cX6_hasSingleFault 17 = .ok (.iconst 0, 1) := dk_3 (dk_at dksX6_hasSingleFault_0 17 rfl rfl)
theorem dX6_hasSingleFault_18 : decode cX6_hasSingleFault 18 = .ok (.ireturn, 1) := dk_172 (dk_at dksX6_hasSingleFault_0 18 rfl rfl)
abbrev cX6_faultyInn : ByteArray := prog_12_method_97_code
def yX6_faultyInn : MethodName := ⟨RX6, "faultyInn", "()I"⟩
def dkwX6_faultyInn_1 : List UInt8 := [16, 12, 112, 172]
abbrev dktX6_faultyInn_1 : List UInt8 := dkwX6_faultyInn_1 ++ []
def dkwX6_faultyInn_0 : List UInt8 := [42, 3, 181, 0, 3, 42, 182, 1, 3, 60, 27, 16, 54, 162, 0, 7, 2, 167, 0, 10, 27, 16, 54, 100]
abbrev dktX6_faultyInn_0 : List UInt8 := dkwX6_faultyInn_0 ++ dktX6_faultyInn_1
theorem dksX6_faultyInn_0 : cX6_faultyInn.data.toList.drop 0 = dktX6_faultyInn_0 := by decide +kernel
theorem dksX6_faultyInn_1 : cX6_faultyInn.data.toList.drop 24 = dktX6_faultyInn_1 := dk_seg dksX6_faultyInn_0 24 rfl rfl
theorem dX6_faultyInn_0 : decode cX6_faultyInn 0 = .ok (.aload_n 0, 1) := dk_42 (dk_at dksX6_faultyInn_0 0 rfl rfl)
theorem dX6_faultyInn_1 : decode cX6_faultyInn 1 = .ok (.iconst 0, 1) := dk_3 (dk_at dksX6_faultyInn_0 1 rfl rfl)
theorem dX6_faultyInn_2 : decode cX6_faultyInn 2 = .ok (.putfield 3, 3) := dk_181 0 3 (dk_at dksX6_faultyInn_0 2 rfl rfl)
theorem dX6_faultyInn_5 : decode cX6_faultyInn 5 = .ok (.aload_n 0, 1) := dk_42 (dk_at dksX6_faultyInn_0 5 rfl rfl)
theorem dX6_faultyInn_6 : decode cX6_faultyInn 6 = .ok (.invokevirtual 259, 3) := dk_182 1 3 (dk_at dksX6_faultyInn_0 6 rfl rfl)
theorem dX6_faultyInn_9 : decode cX6_faultyInn 9 = .ok (.istore_n 1, 1) := dk_60 (dk_at dksX6_faultyInn_0 9 rfl rfl)
theorem dX6_faultyInn_10 : decode cX6_faultyInn 10 = .ok (.iload_n 1, 1) := dk_27 (dk_at dksX6_faultyInn_0 10 rfl rfl)
theorem dX6_faultyInn_11 : decode cX6_faultyInn 11 = .ok (.bipush 54, 2) := dk_16 54 (dk_at dksX6_faultyInn_0 11 rfl rfl)
theorem dX6_faultyInn_13 : decode cX6_faultyInn 13 = .ok (.if_icmp .ge 7, 3) := dk_162 0 7 (dk_at dksX6_faultyInn_0 13 rfl rfl)
theorem dX6_faultyInn_16 : decode cX6_faultyInn 16 = .ok (.iconst (-1), 1) := dk_2 (dk_at dksX6_faultyInn_0 16 rfl rfl)
theorem dX6_faultyInn_17 : decode cX6_faultyInn 17 = .ok (.goto 10, 3) := dk_167 0 10 (dk_at dksX6_faultyInn_0 17 rfl rfl)
theorem dX6_faultyInn_20 : decode cX6_faultyInn 20 = .ok (.iload_n 1, 1) := dk_27 (dk_at dksX6_faultyInn_0 20 rfl rfl)
theorem dX6_faultyInn_21 : decode cX6_faultyInn 21 = .ok (.bipush 54, 2) := dk_16 54 (dk_at dksX6_faultyInn_0 21 rfl rfl)
theorem dX6_faultyInn_23 : decode cX6_faultyInn 23 = .ok (.isub, 1) := dk_100 (dk_at dksX6_faultyInn_0 23 rfl rfl)
theorem dX6_faultyInn_24 : decode cX6_faultyInn 24 = .ok (.bipush 12, 2) := dk_16 12 (dk_at dksX6_faultyInn_1 0 rfl rfl)
theorem dX6_faultyInn_26 : decode cX6_faultyInn 26 = .ok (.irem, 1) := dk_112 (dk_at dksX6_faultyInn_1 2 rfl rfl)
theorem dX6_faultyInn_27 : decode cX6_faultyInn 27 = .ok (.ireturn, 1) := dk_172 (dk_at dksX6_faultyInn_1 3 rfl rfl)
abbrev cX6_isReachable : ByteArray := prog_12_method_99_code
def yX6_isReachable : MethodName := ⟨RX6, "isReachable", "(II)Z"⟩
def dkwX6_isReachable_1 : List UInt8 := [180, 0, 13, 27, 28, 182, 1, 11, 172]
abbrev dktX6_isReachable_1 : List UInt8 := dkwX6_isReachable_1 ++ []
def dkwX6_isReachable_0 : List UInt8 := [42, 3, 181, 0, 3, 42, 27, 28, 182, 1, 33, 154, 0, 10, 42, 4, 181, 0, 3, 3, 172, 42, 42]
abbrev dktX6_isReachable_0 : List UInt8 := dkwX6_isReachable_0 ++ dktX6_isReachable_1
theorem dksX6_isReachable_0 : cX6_isReachable.data.toList.drop 0 = dktX6_isReachable_0 := by decide +kernel
theorem dksX6_isReachable_1 : cX6_isReachable.data.toList.drop 23 = dktX6_isReachable_1 := dk_seg dksX6_isReachable_0 23 rfl rfl
theorem dX6_isReachable_0 : decode cX6_isReachable 0 = .ok (.aload_n 0, 1) := dk_42 (dk_at dksX6_isReachable_0 0 rfl rfl)
theorem dX6_isReachable_1 : decode cX6_isReachable 1 = .ok (.iconst 0, 1) := dk_3 (dk_at dksX6_isReachable_0 1 rfl rfl)
theorem dX6_isReachable_2 : decode cX6_isReachable 2 = .ok (.putfield 3, 3) := dk_181 0 3 (dk_at dksX6_isReachable_0 2 rfl rfl)
theorem dX6_isReachable_5 : decode cX6_isReachable 5 = .ok (.aload_n 0, 1) := dk_42 (dk_at dksX6_isReachable_0 5 rfl rfl)
theorem dX6_isReachable_6 : decode cX6_isReachable 6 = .ok (.iload_n 1, 1) := dk_27 (dk_at dksX6_isReachable_0 6 rfl rfl)
theorem dX6_isReachable_7 : decode cX6_isReachable 7 = .ok (.iload_n 2, 1) := dk_28 (dk_at dksX6_isReachable_0 7 rfl rfl)
theorem dX6_isReachable_8 : decode cX6_isReachable 8 = .ok (.invokevirtual 289, 3) := dk_182 1 33 (dk_at dksX6_isReachable_0 8 rfl rfl)
theorem dX6_isReachable_11 : decode cX6_isReachable 11 = .ok (.ifCond .ne 10, 3) := dk_154 0 10 (dk_at dksX6_isReachable_0 11 rfl rfl)
theorem dX6_isReachable_14 : decode cX6_isReachable 14 = .ok (.aload_n 0, 1) := dk_42 (dk_at dksX6_isReachable_0 14 rfl rfl)
theorem dX6_isReachable_15 : decode cX6_isReachable 15 = .ok (.iconst 1, 1) := dk_4 (dk_at dksX6_isReachable_0 15 rfl rfl)
theorem dX6_isReachable_16 : decode cX6_isReachable 16 = .ok (.putfield 3, 3) := dk_181 0 3 (dk_at dksX6_isReachable_0 16 rfl rfl)
theorem dX6_isReachable_19 : decode cX6_isReachable 19 = .ok (.iconst 0, 1) := dk_3 (dk_at dksX6_isReachable_0 19 rfl rfl)
theorem dX6_isReachable_20 : decode cX6_isReachable 20 = .ok (.ireturn, 1) := dk_172 (dk_at dksX6_isReachable_0 20 rfl rfl)
theorem dX6_isReachable_21 : decode cX6_isReachable 21 = .ok (.aload_n 0, 1) := dk_42 (dk_at dksX6_isReachable_0 21 rfl rfl)
theorem dX6_isReachable_22 : decode cX6_isReachable 22 = .ok (.aload_n 0, 1) := dk_42 (dk_at dksX6_isReachable_0 22 rfl rfl)
theorem dX6_isReachable_23 : decode cX6_isReachable 23 = .ok (.getfield 13, 3) := dk_180 0 13 (dk_at dksX6_isReachable_1 0 rfl rfl)
theorem dX6_isReachable_26 : decode cX6_isReachable 26 = .ok (.iload_n 1, 1) := dk_27 (dk_at dksX6_isReachable_1 3 rfl rfl)
theorem dX6_isReachable_27 : decode cX6_isReachable 27 = .ok (.iload_n 2, 1) := dk_28 (dk_at dksX6_isReachable_1 4 rfl rfl)
theorem dX6_isReachable_28 : decode cX6_isReachable 28 = .ok (.invokevirtual 267, 3) := dk_182 1 11 (dk_at dksX6_isReachable_1 5 rfl rfl)
theorem dX6_isReachable_31 : decode cX6_isReachable 31 = .ok (.ireturn, 1) := dk_172 (dk_at dksX6_isReachable_1 8 rfl rfl)
abbrev cX6_areInns : ByteArray := prog_12_method_98_code
def yX6_areInns : MethodName := ⟨RX6, "areInns", "(II)Z"⟩
def dkwX6_areInns_1 : List UInt8 := [167, 0, 4, 3, 172]
abbrev dktX6_areInns_1 : List UInt8 := dkwX6_areInns_1 ++ []
def dkwX6_areInns_0 : List UInt8 := [42, 180, 0, 13, 27, 184, 0, 85, 153, 0, 18, 42, 180, 0, 13, 28, 184, 0, 85, 153, 0, 7, 4]
abbrev dktX6_areInns_0 : List UInt8 := dkwX6_areInns_0 ++ dktX6_areInns_1
theorem dksX6_areInns_0 : cX6_areInns.data.toList.drop 0 = dktX6_areInns_0 := by decide +kernel
theorem dksX6_areInns_1 : cX6_areInns.data.toList.drop 23 = dktX6_areInns_1 := dk_seg dksX6_areInns_0 23 rfl rfl
theorem dX6_areInns_0 : decode cX6_areInns 0 = .ok (.aload_n 0, 1) := dk_42 (dk_at dksX6_areInns_0 0 rfl rfl)
theorem dX6_areInns_1 : decode cX6_areInns 1 = .ok (.getfield 13, 3) := dk_180 0 13 (dk_at dksX6_areInns_0 1 rfl rfl)
theorem dX6_areInns_4 : decode cX6_areInns 4 = .ok (.iload_n 1, 1) := dk_27 (dk_at dksX6_areInns_0 4 rfl rfl)
theorem dX6_areInns_5 : decode cX6_areInns 5 = .ok (.invokestatic 85, 3) := dk_184 0 85 (dk_at dksX6_areInns_0 5 rfl rfl)
theorem dX6_areInns_8 : decode cX6_areInns 8 = .ok (.ifCond .eq 18, 3) := dk_153 0 18 (dk_at dksX6_areInns_0 8 rfl rfl)
theorem dX6_areInns_11 : decode cX6_areInns 11 = .ok (.aload_n 0, 1) := dk_42 (dk_at dksX6_areInns_0 11 rfl rfl)
theorem dX6_areInns_12 : decode cX6_areInns 12 = .ok (.getfield 13, 3) := dk_180 0 13 (dk_at dksX6_areInns_0 12 rfl rfl)
theorem dX6_areInns_15 : decode cX6_areInns 15 = .ok (.iload_n 2, 1) := dk_28 (dk_at dksX6_areInns_0 15 rfl rfl)
theorem dX6_areInns_16 : decode cX6_areInns 16 = .ok (.invokestatic 85, 3) := dk_184 0 85 (dk_at dksX6_areInns_0 16 rfl rfl)
theorem dX6_areInns_19 : decode cX6_areInns 19 = .ok (.ifCond .eq 7, 3) := dk_153 0 7 (dk_at dksX6_areInns_0 19 rfl rfl)
theorem dX6_areInns_22 : decode cX6_areInns 22 = .ok (.iconst 1, 1) := dk_4 (dk_at dksX6_areInns_0 22 rfl rfl)
theorem dX6_areInns_23 : decode cX6_areInns 23 = .ok (.goto 4, 3) := dk_167 0 4 (dk_at dksX6_areInns_1 0 rfl rfl)
theorem dX6_areInns_26 : decode cX6_areInns 26 = .ok (.iconst 0, 1) := dk_3 (dk_at dksX6_areInns_1 3 rfl rfl)
theorem dX6_areInns_27 : decode cX6_areInns 27 = .ok (.ireturn, 1) := dk_172 (dk_at dksX6_areInns_1 4 rfl rfl)
abbrev cX6_stages : ByteArray := prog_12_method_100_code
def yX6_stages : MethodName := ⟨RX6, "stages", "(II)I"⟩
def dkwX6_stages_1 : List UInt8 := [180, 0, 13, 27, 28, 182, 1, 11, 153, 0, 10, 42, 180, 0, 114, 167, 0, 4, 2, 172]
abbrev dktX6_stages_1 : List UInt8 := dkwX6_stages_1 ++ []
def dkwX6_stages_0 : List UInt8 := [42, 3, 181, 0, 3, 42, 27, 28, 182, 1, 33, 154, 0, 9, 42, 4, 182, 0, 136, 172, 42, 42]
abbrev dktX6_stages_0 : List UInt8 := dkwX6_stages_0 ++ dktX6_stages_1
theorem dksX6_stages_0 : cX6_stages.data.toList.drop 0 = dktX6_stages_0 := by decide +kernel
theorem dksX6_stages_1 : cX6_stages.data.toList.drop 22 = dktX6_stages_1 := dk_seg dksX6_stages_0 22 rfl rfl
theorem dX6_stages_0 : decode cX6_stages 0 = .ok (.aload_n 0, 1) := dk_42 (dk_at dksX6_stages_0 0 rfl rfl)
theorem dX6_stages_1 : decode cX6_stages 1 = .ok (.iconst 0, 1) := dk_3 (dk_at dksX6_stages_0 1 rfl rfl)
theorem dX6_stages_2 : decode cX6_stages 2 = .ok (.putfield 3, 3) := dk_181 0 3 (dk_at dksX6_stages_0 2 rfl rfl)
theorem dX6_stages_5 : decode cX6_stages 5 = .ok (.aload_n 0, 1) := dk_42 (dk_at dksX6_stages_0 5 rfl rfl)
theorem dX6_stages_6 : decode cX6_stages 6 = .ok (.iload_n 1, 1) := dk_27 (dk_at dksX6_stages_0 6 rfl rfl)
theorem dX6_stages_7 : decode cX6_stages 7 = .ok (.iload_n 2, 1) := dk_28 (dk_at dksX6_stages_0 7 rfl rfl)
theorem dX6_stages_8 : decode cX6_stages 8 = .ok (.invokevirtual 289, 3) := dk_182 1 33 (dk_at dksX6_stages_0 8 rfl rfl)
theorem dX6_stages_11 : decode cX6_stages 11 = .ok (.ifCond .ne 9, 3) := dk_154 0 9 (dk_at dksX6_stages_0 11 rfl rfl)
theorem dX6_stages_14 : decode cX6_stages 14 = .ok (.aload_n 0, 1) := dk_42 (dk_at dksX6_stages_0 14 rfl rfl)
theorem dX6_stages_15 : decode cX6_stages 15 = .ok (.iconst 1, 1) := dk_4 (dk_at dksX6_stages_0 15 rfl rfl)
theorem dX6_stages_16 : decode cX6_stages 16 = .ok (.invokevirtual 136, 3) := dk_182 0 136 (dk_at dksX6_stages_0 16 rfl rfl)
theorem dX6_stages_19 : decode cX6_stages 19 = .ok (.ireturn, 1) := dk_172 (dk_at dksX6_stages_0 19 rfl rfl)
theorem dX6_stages_20 : decode cX6_stages 20 = .ok (.aload_n 0, 1) := dk_42 (dk_at dksX6_stages_0 20 rfl rfl)
theorem dX6_stages_21 : decode cX6_stages 21 = .ok (.aload_n 0, 1) := dk_42 (dk_at dksX6_stages_0 21 rfl rfl)
theorem dX6_stages_22 : decode cX6_stages 22 = .ok (.getfield 13, 3) := dk_180 0 13 (dk_at dksX6_stages_1 0 rfl rfl)
theorem dX6_stages_25 : decode cX6_stages 25 = .ok (.iload_n 1, 1) := dk_27 (dk_at dksX6_stages_1 3 rfl rfl)
theorem dX6_stages_26 : decode cX6_stages 26 = .ok (.iload_n 2, 1) := dk_28 (dk_at dksX6_stages_1 4 rfl rfl)
theorem dX6_stages_27 : decode cX6_stages 27 = .ok (.invokevirtual 267, 3) := dk_182 1 11 (dk_at dksX6_stages_1 5 rfl rfl)
theorem dX6_stages_30 : decode cX6_stages 30 = .ok (.ifCond .eq 10, 3) := dk_153 0 10 (dk_at dksX6_stages_1 8 rfl rfl)
theorem dX6_stages_33 : decode cX6_stages 33 = .ok (.aload_n 0, 1) := dk_42 (dk_at dksX6_stages_1 11 rfl rfl)
theorem dX6_stages_34 : decode cX6_stages 34 = .ok (.getfield 114, 3) := dk_180 0 114 (dk_at dksX6_stages_1 12 rfl rfl)
theorem dX6_stages_37 : decode cX6_stages 37 = .ok (.goto 4, 3) := dk_167 0 4 (dk_at dksX6_stages_1 15 rfl rfl)
theorem dX6_stages_40 : decode cX6_stages 40 = .ok (.iconst (-1), 1) := dk_2 (dk_at dksX6_stages_1 18 rfl rfl)
theorem dX6_stages_41 : decode cX6_stages 41 = .ok (.ireturn, 1) := dk_172 (dk_at dksX6_stages_1 19 rfl rfl)
abbrev cX6_rideLength : ByteArray := prog_12_method_101_code
def yX6_rideLength : MethodName := ⟨RX6, "rideLength", "(II)I"⟩
def dkwX6_rideLength_1 : List UInt8 := [180, 0, 13, 27, 28, 182, 1, 11, 153, 0, 10, 42, 180, 0, 117, 167, 0, 4, 2, 172]
abbrev dktX6_rideLength_1 : List UInt8 := dkwX6_rideLength_1 ++ []
def dkwX6_rideLength_0 : List UInt8 := [42, 3, 181, 0, 3, 42, 27, 28, 182, 1, 33, 154, 0, 9, 42, 4, 182, 0, 136, 172, 42, 42]
abbrev dktX6_rideLength_0 : List UInt8 := dkwX6_rideLength_0 ++ dktX6_rideLength_1
theorem dksX6_rideLength_0 : cX6_rideLength.data.toList.drop 0 = dktX6_rideLength_0 := by decide +kernel
theorem dksX6_rideLength_1 : cX6_rideLength.data.toList.drop 22 = dktX6_rideLength_1 := dk_seg dksX6_rideLength_0 22 rfl rfl
theorem dX6_rideLength_0 : decode cX6_rideLength 0 = .ok (.aload_n 0, 1) := dk_42 (dk_at dksX6_rideLength_0 0 rfl rfl)
theorem dX6_rideLength_1 : decode cX6_rideLength 1 = .ok (.iconst 0, 1) := dk_3 (dk_at dksX6_rideLength_0 1 rfl rfl)
theorem dX6_rideLength_2 : decode cX6_rideLength 2 = .ok (.putfield 3, 3) := dk_181 0 3 (dk_at dksX6_rideLength_0 2 rfl rfl)
theorem dX6_rideLength_5 : decode cX6_rideLength 5 = .ok (.aload_n 0, 1) := dk_42 (dk_at dksX6_rideLength_0 5 rfl rfl)
theorem dX6_rideLength_6 : decode cX6_rideLength 6 = .ok (.iload_n 1, 1) := dk_27 (dk_at dksX6_rideLength_0 6 rfl rfl)
theorem dX6_rideLength_7 : decode cX6_rideLength 7 = .ok (.iload_n 2, 1) := dk_28 (dk_at dksX6_rideLength_0 7 rfl rfl)
theorem dX6_rideLength_8 : decode cX6_rideLength 8 = .ok (.invokevirtual 289, 3) := dk_182 1 33 (dk_at dksX6_rideLength_0 8 rfl rfl)
theorem dX6_rideLength_11 : decode cX6_rideLength 11 = .ok (.ifCond .ne 9, 3) := dk_154 0 9 (dk_at dksX6_rideLength_0 11 rfl rfl)
theorem dX6_rideLength_14 : decode cX6_rideLength 14 = .ok (.aload_n 0, 1) := dk_42 (dk_at dksX6_rideLength_0 14 rfl rfl)
theorem dX6_rideLength_15 : decode cX6_rideLength 15 = .ok (.iconst 1, 1) := dk_4 (dk_at dksX6_rideLength_0 15 rfl rfl)
theorem dX6_rideLength_16 : decode cX6_rideLength 16 = .ok (.invokevirtual 136, 3) := dk_182 0 136 (dk_at dksX6_rideLength_0 16 rfl rfl)
theorem dX6_rideLength_19 : decode cX6_rideLength 19 = .ok (.ireturn, 1) := dk_172 (dk_at dksX6_rideLength_0 19 rfl rfl)
theorem dX6_rideLength_20 : decode cX6_rideLength 20 = .ok (.aload_n 0, 1) := dk_42 (dk_at dksX6_rideLength_0 20 rfl rfl)
theorem dX6_rideLength_21 : decode cX6_rideLength 21 = .ok (.aload_n 0, 1) := dk_42 (dk_at dksX6_rideLength_0 21 rfl rfl)
theorem dX6_rideLength_22 : decode cX6_rideLength 22 = .ok (.getfield 13, 3) := dk_180 0 13 (dk_at dksX6_rideLength_1 0 rfl rfl)
theorem dX6_rideLength_25 : decode cX6_rideLength 25 = .ok (.iload_n 1, 1) := dk_27 (dk_at dksX6_rideLength_1 3 rfl rfl)
theorem dX6_rideLength_26 : decode cX6_rideLength 26 = .ok (.iload_n 2, 1) := dk_28 (dk_at dksX6_rideLength_1 4 rfl rfl)
theorem dX6_rideLength_27 : decode cX6_rideLength 27 = .ok (.invokevirtual 267, 3) := dk_182 1 11 (dk_at dksX6_rideLength_1 5 rfl rfl)
theorem dX6_rideLength_30 : decode cX6_rideLength 30 = .ok (.ifCond .eq 10, 3) := dk_153 0 10 (dk_at dksX6_rideLength_1 8 rfl rfl)
theorem dX6_rideLength_33 : decode cX6_rideLength 33 = .ok (.aload_n 0, 1) := dk_42 (dk_at dksX6_rideLength_1 11 rfl rfl)
theorem dX6_rideLength_34 : decode cX6_rideLength 34 = .ok (.getfield 117, 3) := dk_180 0 117 (dk_at dksX6_rideLength_1 12 rfl rfl)
theorem dX6_rideLength_37 : decode cX6_rideLength 37 = .ok (.goto 4, 3) := dk_167 0 4 (dk_at dksX6_rideLength_1 15 rfl rfl)
theorem dX6_rideLength_40 : decode cX6_rideLength 40 = .ok (.iconst (-1), 1) := dk_2 (dk_at dksX6_rideLength_1 18 rfl rfl)
theorem dX6_rideLength_41 : decode cX6_rideLength 41 = .ok (.ireturn, 1) := dk_172 (dk_at dksX6_rideLength_1 19 rfl rfl)
abbrev cX6_stuckAt : ByteArray := prog_12_method_102_code
def yX6_stuckAt : MethodName := ⟨RX6, "stuckAt", "(II)I"⟩
def dkwX6_stuckAt_2 : List UInt8 := [42, 180, 0, 123, 172]
abbrev dktX6_stuckAt_2 : List UInt8 := dkwX6_stuckAt_2 ++ []
def dkwX6_stuckAt_1 : List UInt8 := [180, 0, 13, 27, 28, 182, 1, 11, 154, 0, 12, 42, 180, 0, 114, 16, 24, 160, 0, 7, 2, 167, 0, 7]
abbrev dktX6_stuckAt_1 : List UInt8 := dkwX6_stuckAt_1 ++ dktX6_stuckAt_2
def dkwX6_stuckAt_0 : List UInt8 := [42, 3, 181, 0, 3, 42, 27, 28, 182, 1, 33, 154, 0, 9, 42, 4, 182, 0, 136, 172, 42, 42]
abbrev dktX6_stuckAt_0 : List UInt8 := dkwX6_stuckAt_0 ++ dktX6_stuckAt_1
theorem dksX6_stuckAt_0 : cX6_stuckAt.data.toList.drop 0 = dktX6_stuckAt_0 := by decide +kernel
theorem dksX6_stuckAt_1 : cX6_stuckAt.data.toList.drop 22 = dktX6_stuckAt_1 := dk_seg dksX6_stuckAt_0 22 rfl rfl
theorem dksX6_stuckAt_2 : cX6_stuckAt.data.toList.drop 46 = dktX6_stuckAt_2 := dk_seg dksX6_stuckAt_1 24 rfl rfl
theorem dX6_stuckAt_0 : decode cX6_stuckAt 0 = .ok (.aload_n 0, 1) := dk_42 (dk_at dksX6_stuckAt_0 0 rfl rfl)
theorem dX6_stuckAt_1 : decode cX6_stuckAt 1 = .ok (.iconst 0, 1) := dk_3 (dk_at dksX6_stuckAt_0 1 rfl rfl)
theorem dX6_stuckAt_2 : decode cX6_stuckAt 2 = .ok (.putfield 3, 3) := dk_181 0 3 (dk_at dksX6_stuckAt_0 2 rfl rfl)
theorem dX6_stuckAt_5 : decode cX6_stuckAt 5 = .ok (.aload_n 0, 1) := dk_42 (dk_at dksX6_stuckAt_0 5 rfl rfl)
theorem dX6_stuckAt_6 : decode cX6_stuckAt 6 = .ok (.iload_n 1, 1) := dk_27 (dk_at dksX6_stuckAt_0 6 rfl rfl)
theorem dX6_stuckAt_7 : decode cX6_stuckAt 7 = .ok (.iload_n 2, 1) := dk_28 (dk_at dksX6_stuckAt_0 7 rfl rfl)
theorem dX6_stuckAt_8 : decode cX6_stuckAt 8 = .ok (.invokevirtual 289, 3) := dk_182 1 33 (dk_at dksX6_stuckAt_0 8 rfl rfl)
theorem dX6_stuckAt_11 : decode cX6_stuckAt 11 = .ok (.ifCond .ne 9, 3) := dk_154 0 9 (dk_at dksX6_stuckAt_0 11 rfl rfl)
theorem dX6_stuckAt_14 : decode cX6_stuckAt 14 = .ok (.aload_n 0, 1) := dk_42 (dk_at dksX6_stuckAt_0 14 rfl rfl)
theorem dX6_stuckAt_15 : decode cX6_stuckAt 15 = .ok (.iconst 1, 1) := dk_4 (dk_at dksX6_stuckAt_0 15 rfl rfl)
theorem dX6_stuckAt_16 : decode cX6_stuckAt 16 = .ok (.invokevirtual 136, 3) := dk_182 0 136 (dk_at dksX6_stuckAt_0 16 rfl rfl)
theorem dX6_stuckAt_19 : decode cX6_stuckAt 19 = .ok (.ireturn, 1) := dk_172 (dk_at dksX6_stuckAt_0 19 rfl rfl)
theorem dX6_stuckAt_20 : decode cX6_stuckAt 20 = .ok (.aload_n 0, 1) := dk_42 (dk_at dksX6_stuckAt_0 20 rfl rfl)
theorem dX6_stuckAt_21 : decode cX6_stuckAt 21 = .ok (.aload_n 0, 1) := dk_42 (dk_at dksX6_stuckAt_0 21 rfl rfl)
theorem dX6_stuckAt_22 : decode cX6_stuckAt 22 = .ok (.getfield 13, 3) := dk_180 0 13 (dk_at dksX6_stuckAt_1 0 rfl rfl)
theorem dX6_stuckAt_25 : decode cX6_stuckAt 25 = .ok (.iload_n 1, 1) := dk_27 (dk_at dksX6_stuckAt_1 3 rfl rfl)
theorem dX6_stuckAt_26 : decode cX6_stuckAt 26 = .ok (.iload_n 2, 1) := dk_28 (dk_at dksX6_stuckAt_1 4 rfl rfl)
theorem dX6_stuckAt_27 : decode cX6_stuckAt 27 = .ok (.invokevirtual 267, 3) := dk_182 1 11 (dk_at dksX6_stuckAt_1 5 rfl rfl)
theorem dX6_stuckAt_30 : decode cX6_stuckAt 30 = .ok (.ifCond .ne 12, 3) := dk_154 0 12 (dk_at dksX6_stuckAt_1 8 rfl rfl)
theorem dX6_stuckAt_33 : decode cX6_stuckAt 33 = .ok (.aload_n 0, 1) := dk_42 (dk_at dksX6_stuckAt_1 11 rfl rfl)
theorem dX6_stuckAt_34 : decode cX6_stuckAt 34 = .ok (.getfield 114, 3) := dk_180 0 114 (dk_at dksX6_stuckAt_1 12 rfl rfl)
theorem dX6_stuckAt_37 : decode cX6_stuckAt 37 = .ok (.bipush 24, 2) := dk_16 24 (dk_at dksX6_stuckAt_1 15 rfl rfl)
theorem dX6_stuckAt_39 : decode cX6_stuckAt 39 = .ok (.if_icmp .ne 7, 3) := dk_160 0 7 (dk_at dksX6_stuckAt_1 17 rfl rfl)
theorem dX6_stuckAt_42 : decode cX6_stuckAt 42 = .ok (.iconst (-1), 1) := dk_2 (dk_at dksX6_stuckAt_1 20 rfl rfl)
theorem dX6_stuckAt_43 : decode cX6_stuckAt 43 = .ok (.goto 7, 3) := dk_167 0 7 (dk_at dksX6_stuckAt_1 21 rfl rfl)
theorem dX6_stuckAt_46 : decode cX6_stuckAt 46 = .ok (.aload_n 0, 1) := dk_42 (dk_at dksX6_stuckAt_2 0 rfl rfl)
theorem dX6_stuckAt_47 : decode cX6_stuckAt 47 = .ok (.getfield 123, 3) := dk_180 0 123 (dk_at dksX6_stuckAt_2 1 rfl rfl)
theorem dX6_stuckAt_50 : decode cX6_stuckAt 50 = .ok (.ireturn, 1) := dk_172 (dk_at dksX6_stuckAt_2 4 rfl rfl)
abbrev cX6_neededInns : ByteArray := prog_12_method_103_code
def yX6_neededInns : MethodName := ⟨RX6, "neededInns", "(II)I"⟩
def dkwX6_neededInns_6 : List UInt8 := [132, 4, 1, 167, 255, 151, 29, 172]
abbrev dktX6_neededInns_6 : List UInt8 := dkwX6_neededInns_6 ++ []
def dkwX6_neededInns_5 : List UInt8 := [182, 1, 11, 153, 0, 7, 3, 167, 0, 4, 4, 96, 62, 42, 180, 0, 26, 16, 27, 21, 4, 96, 4, 79]
abbrev dktX6_neededInns_5 : List UInt8 := dkwX6_neededInns_5 ++ dktX6_neededInns_6
def dkwX6_neededInns_4 : List UInt8 := [160, 0, 46, 42, 180, 0, 26, 16, 27, 21, 4, 96, 3, 79, 29, 42, 42, 180, 0, 26, 27, 28]
abbrev dktX6_neededInns_4 : List UInt8 := dkwX6_neededInns_4 ++ dktX6_neededInns_5
def dkwX6_neededInns_3 : List UInt8 := [180, 0, 13, 6, 21, 4, 96, 46, 4, 160, 0, 60, 42, 180, 0, 13, 16, 27, 21, 4, 96, 46, 4]
abbrev dktX6_neededInns_3 : List UInt8 := dkwX6_neededInns_3 ++ dktX6_neededInns_4
def dkwX6_neededInns_2 : List UInt8 := [180, 0, 13, 27, 28, 182, 1, 11, 153, 0, 91, 21, 4, 27, 159, 0, 79, 21, 4, 28, 159, 0, 73, 42]
abbrev dktX6_neededInns_2 : List UInt8 := dkwX6_neededInns_2 ++ dktX6_neededInns_3
def dkwX6_neededInns_1 : List UInt8 := [180, 0, 13, 42, 180, 0, 26, 184, 0, 55, 3, 54, 4, 21, 4, 16, 12, 162, 0, 104, 42, 42]
abbrev dktX6_neededInns_1 : List UInt8 := dkwX6_neededInns_1 ++ dktX6_neededInns_2
def dkwX6_neededInns_0 : List UInt8 := [42, 3, 181, 0, 3, 42, 27, 28, 182, 1, 33, 154, 0, 9, 42, 4, 182, 0, 136, 172, 3, 62, 42]
abbrev dktX6_neededInns_0 : List UInt8 := dkwX6_neededInns_0 ++ dktX6_neededInns_1
theorem dksX6_neededInns_0 : cX6_neededInns.data.toList.drop 0 = dktX6_neededInns_0 := by decide +kernel
theorem dksX6_neededInns_1 : cX6_neededInns.data.toList.drop 23 = dktX6_neededInns_1 := dk_seg dksX6_neededInns_0 23 rfl rfl
theorem dksX6_neededInns_2 : cX6_neededInns.data.toList.drop 45 = dktX6_neededInns_2 := dk_seg dksX6_neededInns_1 22 rfl rfl
theorem dksX6_neededInns_3 : cX6_neededInns.data.toList.drop 69 = dktX6_neededInns_3 := dk_seg dksX6_neededInns_2 24 rfl rfl
theorem dksX6_neededInns_4 : cX6_neededInns.data.toList.drop 92 = dktX6_neededInns_4 := dk_seg dksX6_neededInns_3 23 rfl rfl
theorem dksX6_neededInns_5 : cX6_neededInns.data.toList.drop 114 = dktX6_neededInns_5 := dk_seg dksX6_neededInns_4 22 rfl rfl
theorem dksX6_neededInns_6 : cX6_neededInns.data.toList.drop 138 = dktX6_neededInns_6 := dk_seg dksX6_neededInns_5 24 rfl rfl
theorem dX6_neededInns_0 : decode cX6_neededInns 0 = .ok (.aload_n 0, 1) := dk_42 (dk_at dksX6_neededInns_0 0 rfl rfl)
theorem dX6_neededInns_1 : decode cX6_neededInns 1 = .ok (.iconst 0, 1) := dk_3 (dk_at dksX6_neededInns_0 1 rfl rfl)
theorem dX6_neededInns_2 : decode cX6_neededInns 2 = .ok (.putfield 3, 3) := dk_181 0 3 (dk_at dksX6_neededInns_0 2 rfl rfl)
theorem dX6_neededInns_5 : decode cX6_neededInns 5 = .ok (.aload_n 0, 1) := dk_42 (dk_at dksX6_neededInns_0 5 rfl rfl)
theorem dX6_neededInns_6 : decode cX6_neededInns 6 = .ok (.iload_n 1, 1) := dk_27 (dk_at dksX6_neededInns_0 6 rfl rfl)
theorem dX6_neededInns_7 : decode cX6_neededInns 7 = .ok (.iload_n 2, 1) := dk_28 (dk_at dksX6_neededInns_0 7 rfl rfl)
theorem dX6_neededInns_8 : decode cX6_neededInns 8 = .ok (.invokevirtual 289, 3) := dk_182 1 33 (dk_at dksX6_neededInns_0 8 rfl rfl)
theorem dX6_neededInns_11 : decode cX6_neededInns 11 = .ok (.ifCond .ne 9, 3) := dk_154 0 9 (dk_at dksX6_neededInns_0 11 rfl rfl)
theorem dX6_neededInns_14 : decode cX6_neededInns 14 = .ok (.aload_n 0, 1) := dk_42 (dk_at dksX6_neededInns_0 14 rfl rfl)
theorem dX6_neededInns_15 : decode cX6_neededInns 15 = .ok (.iconst 1, 1) := dk_4 (dk_at dksX6_neededInns_0 15 rfl rfl)
theorem dX6_neededInns_16 : decode cX6_neededInns 16 = .ok (.invokevirtual 136, 3) := dk_182 0 136 (dk_at dksX6_neededInns_0 16 rfl rfl)
theorem dX6_neededInns_19 : decode cX6_neededInns 19 = .ok (.ireturn, 1) := dk_172 (dk_at dksX6_neededInns_0 19 rfl rfl)
theorem dX6_neededInns_20 : decode cX6_neededInns 20 = .ok (.iconst 0, 1) := dk_3 (dk_at dksX6_neededInns_0 20 rfl rfl)
theorem dX6_neededInns_21 : decode cX6_neededInns 21 = .ok (.istore_n 3, 1) := dk_62 (dk_at dksX6_neededInns_0 21 rfl rfl)
theorem dX6_neededInns_22 : decode cX6_neededInns 22 = .ok (.aload_n 0, 1) := dk_42 (dk_at dksX6_neededInns_0 22 rfl rfl)
theorem dX6_neededInns_23 : decode cX6_neededInns 23 = .ok (.getfield 13, 3) := dk_180 0 13 (dk_at dksX6_neededInns_1 0 rfl rfl)
theorem dX6_neededInns_26 : decode cX6_neededInns 26 = .ok (.aload_n 0, 1) := dk_42 (dk_at dksX6_neededInns_1 3 rfl rfl)
theorem dX6_neededInns_27 : decode cX6_neededInns 27 = .ok (.getfield 26, 3) := dk_180 0 26 (dk_at dksX6_neededInns_1 4 rfl rfl)
theorem dX6_neededInns_30 : decode cX6_neededInns 30 = .ok (.invokestatic 55, 3) := dk_184 0 55 (dk_at dksX6_neededInns_1 7 rfl rfl)
theorem dX6_neededInns_33 : decode cX6_neededInns 33 = .ok (.iconst 0, 1) := dk_3 (dk_at dksX6_neededInns_1 10 rfl rfl)
theorem dX6_neededInns_34 : decode cX6_neededInns 34 = .ok (.istore 4, 2) := dk_54 4 (dk_at dksX6_neededInns_1 11 rfl rfl)
theorem dX6_neededInns_36 : decode cX6_neededInns 36 = .ok (.iload 4, 2) := dk_21 4 (dk_at dksX6_neededInns_1 13 rfl rfl)
theorem dX6_neededInns_38 : decode cX6_neededInns 38 = .ok (.bipush 12, 2) := dk_16 12 (dk_at dksX6_neededInns_1 15 rfl rfl)
theorem dX6_neededInns_40 : decode cX6_neededInns 40 = .ok (.if_icmp .ge 104, 3) := dk_162 0 104 (dk_at dksX6_neededInns_1 17 rfl rfl)
theorem dX6_neededInns_43 : decode cX6_neededInns 43 = .ok (.aload_n 0, 1) := dk_42 (dk_at dksX6_neededInns_1 20 rfl rfl)
theorem dX6_neededInns_44 : decode cX6_neededInns 44 = .ok (.aload_n 0, 1) := dk_42 (dk_at dksX6_neededInns_1 21 rfl rfl)
theorem dX6_neededInns_45 : decode cX6_neededInns 45 = .ok (.getfield 13, 3) := dk_180 0 13 (dk_at dksX6_neededInns_2 0 rfl rfl)
theorem dX6_neededInns_48 : decode cX6_neededInns 48 = .ok (.iload_n 1, 1) := dk_27 (dk_at dksX6_neededInns_2 3 rfl rfl)
theorem dX6_neededInns_49 : decode cX6_neededInns 49 = .ok (.iload_n 2, 1) := dk_28 (dk_at dksX6_neededInns_2 4 rfl rfl)
theorem dX6_neededInns_50 : decode cX6_neededInns 50 = .ok (.invokevirtual 267, 3) := dk_182 1 11 (dk_at dksX6_neededInns_2 5 rfl rfl)
theorem dX6_neededInns_53 : decode cX6_neededInns 53 = .ok (.ifCond .eq 91, 3) := dk_153 0 91 (dk_at dksX6_neededInns_2 8 rfl rfl)
theorem dX6_neededInns_56 : decode cX6_neededInns 56 = .ok (.iload 4, 2) := dk_21 4 (dk_at dksX6_neededInns_2 11 rfl rfl)
theorem dX6_neededInns_58 : decode cX6_neededInns 58 = .ok (.iload_n 1, 1) := dk_27 (dk_at dksX6_neededInns_2 13 rfl rfl)
theorem dX6_neededInns_59 : decode cX6_neededInns 59 = .ok (.if_icmp .eq 79, 3) := dk_159 0 79 (dk_at dksX6_neededInns_2 14 rfl rfl)
theorem dX6_neededInns_62 : decode cX6_neededInns 62 = .ok (.iload 4, 2) := dk_21 4 (dk_at dksX6_neededInns_2 17 rfl rfl)
theorem dX6_neededInns_64 : decode cX6_neededInns 64 = .ok (.iload_n 2, 1) := dk_28 (dk_at dksX6_neededInns_2 19 rfl rfl)
theorem dX6_neededInns_65 : decode cX6_neededInns 65 = .ok (.if_icmp .eq 73, 3) := dk_159 0 73 (dk_at dksX6_neededInns_2 20 rfl rfl)
theorem dX6_neededInns_68 : decode cX6_neededInns 68 = .ok (.aload_n 0, 1) := dk_42 (dk_at dksX6_neededInns_2 23 rfl rfl)
theorem dX6_neededInns_69 : decode cX6_neededInns 69 = .ok (.getfield 13, 3) := dk_180 0 13 (dk_at dksX6_neededInns_3 0 rfl rfl)
theorem dX6_neededInns_72 : decode cX6_neededInns 72 = .ok (.iconst 3, 1) := dk_6 (dk_at dksX6_neededInns_3 3 rfl rfl)
theorem dX6_neededInns_73 : decode cX6_neededInns 73 = .ok (.iload 4, 2) := dk_21 4 (dk_at dksX6_neededInns_3 4 rfl rfl)
theorem dX6_neededInns_75 : decode cX6_neededInns 75 = .ok (.iadd, 1) := dk_96 (dk_at dksX6_neededInns_3 6 rfl rfl)
theorem dX6_neededInns_76 : decode cX6_neededInns 76 = .ok (.iaload, 1) := dk_46 (dk_at dksX6_neededInns_3 7 rfl rfl)
theorem dX6_neededInns_77 : decode cX6_neededInns 77 = .ok (.iconst 1, 1) := dk_4 (dk_at dksX6_neededInns_3 8 rfl rfl)
theorem dX6_neededInns_78 : decode cX6_neededInns 78 = .ok (.if_icmp .ne 60, 3) := dk_160 0 60 (dk_at dksX6_neededInns_3 9 rfl rfl)
theorem dX6_neededInns_81 : decode cX6_neededInns 81 = .ok (.aload_n 0, 1) := dk_42 (dk_at dksX6_neededInns_3 12 rfl rfl)
theorem dX6_neededInns_82 : decode cX6_neededInns 82 = .ok (.getfield 13, 3) := dk_180 0 13 (dk_at dksX6_neededInns_3 13 rfl rfl)
theorem dX6_neededInns_85 : decode cX6_neededInns 85 = .ok (.bipush 27, 2) := dk_16 27 (dk_at dksX6_neededInns_3 16 rfl rfl)
theorem dX6_neededInns_87 : decode cX6_neededInns 87 = .ok (.iload 4, 2) := dk_21 4 (dk_at dksX6_neededInns_3 18 rfl rfl)
theorem dX6_neededInns_89 : decode cX6_neededInns 89 = .ok (.iadd, 1) := dk_96 (dk_at dksX6_neededInns_3 20 rfl rfl)
theorem dX6_neededInns_90 : decode cX6_neededInns 90 = .ok (.iaload, 1) := dk_46 (dk_at dksX6_neededInns_3 21 rfl rfl)
theorem dX6_neededInns_91 : decode cX6_neededInns 91 = .ok (.iconst 1, 1) := dk_4 (dk_at dksX6_neededInns_3 22 rfl rfl)
theorem dX6_neededInns_92 : decode cX6_neededInns 92 = .ok (.if_icmp .ne 46, 3) := dk_160 0 46 (dk_at dksX6_neededInns_4 0 rfl rfl)
theorem dX6_neededInns_95 : decode cX6_neededInns 95 = .ok (.aload_n 0, 1) := dk_42 (dk_at dksX6_neededInns_4 3 rfl rfl)
theorem dX6_neededInns_96 : decode cX6_neededInns 96 = .ok (.getfield 26, 3) := dk_180 0 26 (dk_at dksX6_neededInns_4 4 rfl rfl)
theorem dX6_neededInns_99 : decode cX6_neededInns 99 = .ok (.bipush 27, 2) := dk_16 27 (dk_at dksX6_neededInns_4 7 rfl rfl)
theorem dX6_neededInns_101 : decode cX6_neededInns 101 = .ok (.iload 4, 2) := dk_21 4 (dk_at dksX6_neededInns_4 9 rfl rfl)
theorem dX6_neededInns_103 : decode cX6_neededInns 103 = .ok (.iadd, 1) := dk_96 (dk_at dksX6_neededInns_4 11 rfl rfl)
theorem dX6_neededInns_104 : decode cX6_neededInns 104 = .ok (.iconst 0, 1) := dk_3 (dk_at dksX6_neededInns_4 12 rfl rfl)
theorem dX6_neededInns_105 : decode cX6_neededInns 105 = .ok (.iastore, 1) := dk_79 (dk_at dksX6_neededInns_4 13 rfl rfl)
theorem dX6_neededInns_106 : decode cX6_neededInns 106 = .ok (.iload_n 3, 1) := dk_29 (dk_at dksX6_neededInns_4 14 rfl rfl)
theorem dX6_neededInns_107 : decode cX6_neededInns 107 = .ok (.aload_n 0, 1) := dk_42 (dk_at dksX6_neededInns_4 15 rfl rfl)
theorem dX6_neededInns_108 : decode cX6_neededInns 108 = .ok (.aload_n 0, 1) := dk_42 (dk_at dksX6_neededInns_4 16 rfl rfl)
theorem dX6_neededInns_109 : decode cX6_neededInns 109 = .ok (.getfield 26, 3) := dk_180 0 26 (dk_at dksX6_neededInns_4 17 rfl rfl)
theorem dX6_neededInns_112 : decode cX6_neededInns 112 = .ok (.iload_n 1, 1) := dk_27 (dk_at dksX6_neededInns_4 20 rfl rfl)
theorem dX6_neededInns_113 : decode cX6_neededInns 113 = .ok (.iload_n 2, 1) := dk_28 (dk_at dksX6_neededInns_4 21 rfl rfl)
theorem dX6_neededInns_114 : decode cX6_neededInns 114 = .ok (.invokevirtual 267, 3) := dk_182 1 11 (dk_at dksX6_neededInns_5 0 rfl rfl)
theorem dX6_neededInns_117 : decode cX6_neededInns 117 = .ok (.ifCond .eq 7, 3) := dk_153 0 7 (dk_at dksX6_neededInns_5 3 rfl rfl)
theorem dX6_neededInns_120 : decode cX6_neededInns 120 = .ok (.iconst 0, 1) := dk_3 (dk_at dksX6_neededInns_5 6 rfl rfl)
theorem dX6_neededInns_121 : decode cX6_neededInns 121 = .ok (.goto 4, 3) := dk_167 0 4 (dk_at dksX6_neededInns_5 7 rfl rfl)
theorem dX6_neededInns_124 : decode cX6_neededInns 124 = .ok (.iconst 1, 1) := dk_4 (dk_at dksX6_neededInns_5 10 rfl rfl)
theorem dX6_neededInns_125 : decode cX6_neededInns 125 = .ok (.iadd, 1) := dk_96 (dk_at dksX6_neededInns_5 11 rfl rfl)
theorem dX6_neededInns_126 : decode cX6_neededInns 126 = .ok (.istore_n 3, 1) := dk_62 (dk_at dksX6_neededInns_5 12 rfl rfl)
theorem dX6_neededInns_127 : decode cX6_neededInns 127 = .ok (.aload_n 0, 1) := dk_42 (dk_at dksX6_neededInns_5 13 rfl rfl)
theorem dX6_neededInns_128 : decode cX6_neededInns 128 = .ok (.getfield 26, 3) := dk_180 0 26 (dk_at dksX6_neededInns_5 14 rfl rfl)
theorem dX6_neededInns_131 : decode cX6_neededInns 131 = .ok (.bipush 27, 2) := dk_16 27 (dk_at dksX6_neededInns_5 17 rfl rfl)
theorem dX6_neededInns_133 : decode cX6_neededInns 133 = .ok (.iload 4, 2) := dk_21 4 (dk_at dksX6_neededInns_5 19 rfl rfl)
theorem dX6_neededInns_135 : decode cX6_neededInns 135 = .ok (.iadd, 1) := dk_96 (dk_at dksX6_neededInns_5 21 rfl rfl)
theorem dX6_neededInns_136 : decode cX6_neededInns 136 = .ok (.iconst 1, 1) := dk_4 (dk_at dksX6_neededInns_5 22 rfl rfl)
theorem dX6_neededInns_137 : decode cX6_neededInns 137 = .ok (.iastore, 1) := dk_79 (dk_at dksX6_neededInns_5 23 rfl rfl)
theorem dX6_neededInns_138 : decode cX6_neededInns 138 = .ok (.iinc 4 1, 3) := dk_132 4 1 (dk_at dksX6_neededInns_6 0 rfl rfl)
theorem dX6_neededInns_141 : decode cX6_neededInns 141 = .ok (.goto (-105), 3) := dk_167 255 151 (dk_at dksX6_neededInns_6 3 rfl rfl)
theorem dX6_neededInns_144 : decode cX6_neededInns 144 = .ok (.iload_n 3, 1) := dk_29 (dk_at dksX6_neededInns_6 6 rfl rfl)
theorem dX6_neededInns_145 : decode cX6_neededInns 145 = .ok (.ireturn, 1) := dk_172 (dk_at dksX6_neededInns_6 7 rfl rfl)
abbrev cX6_leastRange : ByteArray := prog_12_method_104_code
def yX6_leastRange : MethodName := ⟨RX6, "leastRange", "(II)I"⟩
def dkwX6_leastRange_2 : List UInt8 := [42, 180, 0, 26, 27, 28, 182, 1, 11, 153, 0, 5, 29, 172, 132, 3, 1, 167, 255, 224, 2, 172]
abbrev dktX6_leastRange_2 : List UInt8 := dkwX6_leastRange_2 ++ []
def dkwX6_leastRange_1 : List UInt8 := [42, 180, 0, 26, 184, 0, 55, 4, 62, 29, 17, 3, 231, 163, 0, 31, 42, 180, 0, 26, 3, 29, 79, 42]
abbrev dktX6_leastRange_1 : List UInt8 := dkwX6_leastRange_1 ++ dktX6_leastRange_2
def dkwX6_leastRange_0 : List UInt8 := [42, 3, 181, 0, 3, 42, 27, 28, 182, 1, 33, 154, 0, 9, 42, 4, 182, 0, 136, 172, 42, 180, 0, 13]
abbrev dktX6_leastRange_0 : List UInt8 := dkwX6_leastRange_0 ++ dktX6_leastRange_1
theorem dksX6_leastRange_0 : cX6_leastRange.data.toList.drop 0 = dktX6_leastRange_0 := by decide +kernel
theorem dksX6_leastRange_1 : cX6_leastRange.data.toList.drop 24 = dktX6_leastRange_1 := dk_seg dksX6_leastRange_0 24 rfl rfl
theorem dksX6_leastRange_2 : cX6_leastRange.data.toList.drop 48 = dktX6_leastRange_2 := dk_seg dksX6_leastRange_1 24 rfl rfl
theorem dX6_leastRange_0 : decode cX6_leastRange 0 = .ok (.aload_n 0, 1) := dk_42 (dk_at dksX6_leastRange_0 0 rfl rfl)
theorem dX6_leastRange_1 : decode cX6_leastRange 1 = .ok (.iconst 0, 1) := dk_3 (dk_at dksX6_leastRange_0 1 rfl rfl)
theorem dX6_leastRange_2 : decode cX6_leastRange 2 = .ok (.putfield 3, 3) := dk_181 0 3 (dk_at dksX6_leastRange_0 2 rfl rfl)
theorem dX6_leastRange_5 : decode cX6_leastRange 5 = .ok (.aload_n 0, 1) := dk_42 (dk_at dksX6_leastRange_0 5 rfl rfl)
theorem dX6_leastRange_6 : decode cX6_leastRange 6 = .ok (.iload_n 1, 1) := dk_27 (dk_at dksX6_leastRange_0 6 rfl rfl)
theorem dX6_leastRange_7 : decode cX6_leastRange 7 = .ok (.iload_n 2, 1) := dk_28 (dk_at dksX6_leastRange_0 7 rfl rfl)
theorem dX6_leastRange_8 : decode cX6_leastRange 8 = .ok (.invokevirtual 289, 3) := dk_182 1 33 (dk_at dksX6_leastRange_0 8 rfl rfl)
theorem dX6_leastRange_11 : decode cX6_leastRange 11 = .ok (.ifCond .ne 9, 3) := dk_154 0 9 (dk_at dksX6_leastRange_0 11 rfl rfl)
theorem dX6_leastRange_14 : decode cX6_leastRange 14 = .ok (.aload_n 0, 1) := dk_42 (dk_at dksX6_leastRange_0 14 rfl rfl)
theorem dX6_leastRange_15 : decode cX6_leastRange 15 = .ok (.iconst 1, 1) := dk_4 (dk_at dksX6_leastRange_0 15 rfl rfl)
theorem dX6_leastRange_16 : decode cX6_leastRange 16 = .ok (.invokevirtual 136, 3) := dk_182 0 136 (dk_at dksX6_leastRange_0 16 rfl rfl)
theorem dX6_leastRange_19 : decode cX6_leastRange 19 = .ok (.ireturn, 1) := dk_172 (dk_at dksX6_leastRange_0 19 rfl rfl)
theorem dX6_leastRange_20 : decode cX6_leastRange 20 = .ok (.aload_n 0, 1) := dk_42 (dk_at dksX6_leastRange_0 20 rfl rfl)
theorem dX6_leastRange_21 : decode cX6_leastRange 21 = .ok (.getfield 13, 3) := dk_180 0 13 (dk_at dksX6_leastRange_0 21 rfl rfl)
theorem dX6_leastRange_24 : decode cX6_leastRange 24 = .ok (.aload_n 0, 1) := dk_42 (dk_at dksX6_leastRange_1 0 rfl rfl)
theorem dX6_leastRange_25 : decode cX6_leastRange 25 = .ok (.getfield 26, 3) := dk_180 0 26 (dk_at dksX6_leastRange_1 1 rfl rfl)
theorem dX6_leastRange_28 : decode cX6_leastRange 28 = .ok (.invokestatic 55, 3) := dk_184 0 55 (dk_at dksX6_leastRange_1 4 rfl rfl)
theorem dX6_leastRange_31 : decode cX6_leastRange 31 = .ok (.iconst 1, 1) := dk_4 (dk_at dksX6_leastRange_1 7 rfl rfl)
theorem dX6_leastRange_32 : decode cX6_leastRange 32 = .ok (.istore_n 3, 1) := dk_62 (dk_at dksX6_leastRange_1 8 rfl rfl)
theorem dX6_leastRange_33 : decode cX6_leastRange 33 = .ok (.iload_n 3, 1) := dk_29 (dk_at dksX6_leastRange_1 9 rfl rfl)
theorem dX6_leastRange_34 : decode cX6_leastRange 34 = .ok (.sipush 999, 3) := dk_17 3 231 (dk_at dksX6_leastRange_1 10 rfl rfl)
theorem dX6_leastRange_37 : decode cX6_leastRange 37 = .ok (.if_icmp .gt 31, 3) := dk_163 0 31 (dk_at dksX6_leastRange_1 13 rfl rfl)
theorem dX6_leastRange_40 : decode cX6_leastRange 40 = .ok (.aload_n 0, 1) := dk_42 (dk_at dksX6_leastRange_1 16 rfl rfl)
theorem dX6_leastRange_41 : decode cX6_leastRange 41 = .ok (.getfield 26, 3) := dk_180 0 26 (dk_at dksX6_leastRange_1 17 rfl rfl)
theorem dX6_leastRange_44 : decode cX6_leastRange 44 = .ok (.iconst 0, 1) := dk_3 (dk_at dksX6_leastRange_1 20 rfl rfl)
theorem dX6_leastRange_45 : decode cX6_leastRange 45 = .ok (.iload_n 3, 1) := dk_29 (dk_at dksX6_leastRange_1 21 rfl rfl)
theorem dX6_leastRange_46 : decode cX6_leastRange 46 = .ok (.iastore, 1) := dk_79 (dk_at dksX6_leastRange_1 22 rfl rfl)
theorem dX6_leastRange_47 : decode cX6_leastRange 47 = .ok (.aload_n 0, 1) := dk_42 (dk_at dksX6_leastRange_1 23 rfl rfl)
theorem dX6_leastRange_48 : decode cX6_leastRange 48 = .ok (.aload_n 0, 1) := dk_42 (dk_at dksX6_leastRange_2 0 rfl rfl)
theorem dX6_leastRange_49 : decode cX6_leastRange 49 = .ok (.getfield 26, 3) := dk_180 0 26 (dk_at dksX6_leastRange_2 1 rfl rfl)
theorem dX6_leastRange_52 : decode cX6_leastRange 52 = .ok (.iload_n 1, 1) := dk_27 (dk_at dksX6_leastRange_2 4 rfl rfl)
theorem dX6_leastRange_53 : decode cX6_leastRange 53 = .ok (.iload_n 2, 1) := dk_28 (dk_at dksX6_leastRange_2 5 rfl rfl)
theorem dX6_leastRange_54 : decode cX6_leastRange 54 = .ok (.invokevirtual 267, 3) := dk_182 1 11 (dk_at dksX6_leastRange_2 6 rfl rfl)
theorem dX6_leastRange_57 : decode cX6_leastRange 57 = .ok (.ifCond .eq 5, 3) := dk_153 0 5 (dk_at dksX6_leastRange_2 9 rfl rfl)
theorem dX6_leastRange_60 : decode cX6_leastRange 60 = .ok (.iload_n 3, 1) := dk_29 (dk_at dksX6_leastRange_2 12 rfl rfl)
theorem dX6_leastRange_61 : decode cX6_leastRange 61 = .ok (.ireturn, 1) := dk_172 (dk_at dksX6_leastRange_2 13 rfl rfl)
theorem dX6_leastRange_62 : decode cX6_leastRange 62 = .ok (.iinc 3 1, 3) := dk_132 3 1 (dk_at dksX6_leastRange_2 14 rfl rfl)
theorem dX6_leastRange_65 : decode cX6_leastRange 65 = .ok (.goto (-32), 3) := dk_167 255 224 (dk_at dksX6_leastRange_2 17 rfl rfl)
theorem dX6_leastRange_68 : decode cX6_leastRange 68 = .ok (.iconst (-1), 1) := dk_2 (dk_at dksX6_leastRange_2 20 rfl rfl)
theorem dX6_leastRange_69 : decode cX6_leastRange 69 = .ok (.ireturn, 1) := dk_172 (dk_at dksX6_leastRange_2 21 rfl rfl)
abbrev cX6_helpfulOpening : ByteArray := prog_12_method_105_code
def yX6_helpfulOpening : MethodName := ⟨RX6, "helpfulOpening", "(II)I"⟩
def dkwX6_helpfulOpening_5 : List UInt8 := [2, 172]
abbrev dktX6_helpfulOpening_5 : List UInt8 := dkwX6_helpfulOpening_5 ++ []
def dkwX6_helpfulOpening_4 : List UInt8 := [182, 1, 11, 153, 0, 5, 29, 172, 42, 180, 0, 26, 16, 27, 29, 96, 3, 79, 132, 3, 1, 167, 255, 175]
abbrev dktX6_helpfulOpening_4 : List UInt8 := dkwX6_helpfulOpening_4 ++ dktX6_helpfulOpening_5
def dkwX6_helpfulOpening_3 : List UInt8 := [29, 96, 46, 154, 0, 38, 42, 180, 0, 26, 16, 27, 29, 96, 4, 79, 42, 42, 180, 0, 26, 27, 28]
abbrev dktX6_helpfulOpening_3 : List UInt8 := dkwX6_helpfulOpening_3 ++ dktX6_helpfulOpening_4
def dkwX6_helpfulOpening_2 : List UInt8 := [182, 1, 11, 154, 0, 68, 42, 180, 0, 13, 6, 29, 96, 46, 4, 160, 0, 50, 42, 180, 0, 13, 16, 27]
abbrev dktX6_helpfulOpening_2 : List UInt8 := dkwX6_helpfulOpening_2 ++ dktX6_helpfulOpening_3
def dkwX6_helpfulOpening_1 : List UInt8 := [42, 180, 0, 26, 184, 0, 55, 3, 62, 29, 16, 12, 162, 0, 81, 42, 42, 180, 0, 13, 27, 28]
abbrev dktX6_helpfulOpening_1 : List UInt8 := dkwX6_helpfulOpening_1 ++ dktX6_helpfulOpening_2
def dkwX6_helpfulOpening_0 : List UInt8 := [42, 3, 181, 0, 3, 42, 27, 28, 182, 1, 33, 154, 0, 9, 42, 4, 182, 0, 136, 172, 42, 180, 0, 13]
abbrev dktX6_helpfulOpening_0 : List UInt8 := dkwX6_helpfulOpening_0 ++ dktX6_helpfulOpening_1
theorem dksX6_helpfulOpening_0 : cX6_helpfulOpening.data.toList.drop 0 = dktX6_helpfulOpening_0 := by decide +kernel
theorem dksX6_helpfulOpening_1 : cX6_helpfulOpening.data.toList.drop 24 = dktX6_helpfulOpening_1 := dk_seg dksX6_helpfulOpening_0 24 rfl rfl
theorem dksX6_helpfulOpening_2 : cX6_helpfulOpening.data.toList.drop 46 = dktX6_helpfulOpening_2 := dk_seg dksX6_helpfulOpening_1 22 rfl rfl
theorem dksX6_helpfulOpening_3 : cX6_helpfulOpening.data.toList.drop 70 = dktX6_helpfulOpening_3 := dk_seg dksX6_helpfulOpening_2 24 rfl rfl
theorem dksX6_helpfulOpening_4 : cX6_helpfulOpening.data.toList.drop 93 = dktX6_helpfulOpening_4 := dk_seg dksX6_helpfulOpening_3 23 rfl rfl
theorem dksX6_helpfulOpening_5 : cX6_helpfulOpening.data.toList.drop 117 = dktX6_helpfulOpening_5 := dk_seg dksX6_helpfulOpening_4 24 rfl rfl
theorem dX6_helpfulOpening_0 : decode cX6_helpfulOpening 0 = .ok (.aload_n 0, 1) := dk_42 (dk_at dksX6_helpfulOpening_0 0 rfl rfl)
theorem dX6_helpfulOpening_1 : decode cX6_helpfulOpening 1 = .ok (.iconst 0, 1) := dk_3 (dk_at dksX6_helpfulOpening_0 1 rfl rfl)
theorem dX6_helpfulOpening_2 : decode cX6_helpfulOpening 2 = .ok (.putfield 3, 3) := dk_181 0 3 (dk_at dksX6_helpfulOpening_0 2 rfl rfl)
theorem dX6_helpfulOpening_5 : decode cX6_helpfulOpening 5 = .ok (.aload_n 0, 1) := dk_42 (dk_at dksX6_helpfulOpening_0 5 rfl rfl)
theorem dX6_helpfulOpening_6 : decode cX6_helpfulOpening 6 = .ok (.iload_n 1, 1) := dk_27 (dk_at dksX6_helpfulOpening_0 6 rfl rfl)
theorem dX6_helpfulOpening_7 : decode cX6_helpfulOpening 7 = .ok (.iload_n 2, 1) := dk_28 (dk_at dksX6_helpfulOpening_0 7 rfl rfl)
theorem dX6_helpfulOpening_8 : decode cX6_helpfulOpening 8 = .ok (.invokevirtual 289, 3) := dk_182 1 33 (dk_at dksX6_helpfulOpening_0 8 rfl rfl)
theorem dX6_helpfulOpening_11 : decode cX6_helpfulOpening 11 = .ok (.ifCond .ne 9, 3) := dk_154 0 9 (dk_at dksX6_helpfulOpening_0 11 rfl rfl)
theorem dX6_helpfulOpening_14 : decode cX6_helpfulOpening 14 = .ok (.aload_n 0, 1) := dk_42 (dk_at dksX6_helpfulOpening_0 14 rfl rfl)
theorem dX6_helpfulOpening_15 : decode cX6_helpfulOpening 15 = .ok (.iconst 1, 1) := dk_4 (dk_at dksX6_helpfulOpening_0 15 rfl rfl)
theorem dX6_helpfulOpening_16 : decode cX6_helpfulOpening 16 = .ok (.invokevirtual 136, 3) := dk_182 0 136 (dk_at dksX6_helpfulOpening_0 16 rfl rfl)
theorem dX6_helpfulOpening_19 : decode cX6_helpfulOpening 19 = .ok (.ireturn, 1) := dk_172 (dk_at dksX6_helpfulOpening_0 19 rfl rfl)
theorem dX6_helpfulOpening_20 : decode cX6_helpfulOpening 20 = .ok (.aload_n 0, 1) := dk_42 (dk_at dksX6_helpfulOpening_0 20 rfl rfl)
theorem dX6_helpfulOpening_21 : decode cX6_helpfulOpening 21 = .ok (.getfield 13, 3) := dk_180 0 13 (dk_at dksX6_helpfulOpening_0 21 rfl rfl)
theorem dX6_helpfulOpening_24 : decode cX6_helpfulOpening 24 = .ok (.aload_n 0, 1) := dk_42 (dk_at dksX6_helpfulOpening_1 0 rfl rfl)
theorem dX6_helpfulOpening_25 : decode cX6_helpfulOpening 25 = .ok (.getfield 26, 3) := dk_180 0 26 (dk_at dksX6_helpfulOpening_1 1 rfl rfl)
theorem dX6_helpfulOpening_28 : decode cX6_helpfulOpening 28 = .ok (.invokestatic 55, 3) := dk_184 0 55 (dk_at dksX6_helpfulOpening_1 4 rfl rfl)
theorem dX6_helpfulOpening_31 : decode cX6_helpfulOpening 31 = .ok (.iconst 0, 1) := dk_3 (dk_at dksX6_helpfulOpening_1 7 rfl rfl)
theorem dX6_helpfulOpening_32 : decode cX6_helpfulOpening 32 = .ok (.istore_n 3, 1) := dk_62 (dk_at dksX6_helpfulOpening_1 8 rfl rfl)
theorem dX6_helpfulOpening_33 : decode cX6_helpfulOpening 33 = .ok (.iload_n 3, 1) := dk_29 (dk_at dksX6_helpfulOpening_1 9 rfl rfl)
theorem dX6_helpfulOpening_34 : decode cX6_helpfulOpening 34 = .ok (.bipush 12, 2) := dk_16 12 (dk_at dksX6_helpfulOpening_1 10 rfl rfl)
theorem dX6_helpfulOpening_36 : decode cX6_helpfulOpening 36 = .ok (.if_icmp .ge 81, 3) := dk_162 0 81 (dk_at dksX6_helpfulOpening_1 12 rfl rfl)
theorem dX6_helpfulOpening_39 : decode cX6_helpfulOpening 39 = .ok (.aload_n 0, 1) := dk_42 (dk_at dksX6_helpfulOpening_1 15 rfl rfl)
theorem dX6_helpfulOpening_40 : decode cX6_helpfulOpening 40 = .ok (.aload_n 0, 1) := dk_42 (dk_at dksX6_helpfulOpening_1 16 rfl rfl)
theorem dX6_helpfulOpening_41 : decode cX6_helpfulOpening 41 = .ok (.getfield 13, 3) := dk_180 0 13 (dk_at dksX6_helpfulOpening_1 17 rfl rfl)
theorem dX6_helpfulOpening_44 : decode cX6_helpfulOpening 44 = .ok (.iload_n 1, 1) := dk_27 (dk_at dksX6_helpfulOpening_1 20 rfl rfl)
theorem dX6_helpfulOpening_45 : decode cX6_helpfulOpening 45 = .ok (.iload_n 2, 1) := dk_28 (dk_at dksX6_helpfulOpening_1 21 rfl rfl)
theorem dX6_helpfulOpening_46 : decode cX6_helpfulOpening 46 = .ok (.invokevirtual 267, 3) := dk_182 1 11 (dk_at dksX6_helpfulOpening_2 0 rfl rfl)
theorem dX6_helpfulOpening_49 : decode cX6_helpfulOpening 49 = .ok (.ifCond .ne 68, 3) := dk_154 0 68 (dk_at dksX6_helpfulOpening_2 3 rfl rfl)
theorem dX6_helpfulOpening_52 : decode cX6_helpfulOpening 52 = .ok (.aload_n 0, 1) := dk_42 (dk_at dksX6_helpfulOpening_2 6 rfl rfl)
theorem dX6_helpfulOpening_53 : decode cX6_helpfulOpening 53 = .ok (.getfield 13, 3) := dk_180 0 13 (dk_at dksX6_helpfulOpening_2 7 rfl rfl)
theorem dX6_helpfulOpening_56 : decode cX6_helpfulOpening 56 = .ok (.iconst 3, 1) := dk_6 (dk_at dksX6_helpfulOpening_2 10 rfl rfl)
theorem dX6_helpfulOpening_57 : decode cX6_helpfulOpening 57 = .ok (.iload_n 3, 1) := dk_29 (dk_at dksX6_helpfulOpening_2 11 rfl rfl)
theorem dX6_helpfulOpening_58 : decode cX6_helpfulOpening 58 = .ok (.iadd, 1) := dk_96 (dk_at dksX6_helpfulOpening_2 12 rfl rfl)
theorem dX6_helpfulOpening_59 : decode cX6_helpfulOpening 59 = .ok (.iaload, 1) := dk_46 (dk_at dksX6_helpfulOpening_2 13 rfl rfl)
theorem dX6_helpfulOpening_60 : decode cX6_helpfulOpening 60 = .ok (.iconst 1, 1) := dk_4 (dk_at dksX6_helpfulOpening_2 14 rfl rfl)
theorem dX6_helpfulOpening_61 : decode cX6_helpfulOpening 61 = .ok (.if_icmp .ne 50, 3) := dk_160 0 50 (dk_at dksX6_helpfulOpening_2 15 rfl rfl)
theorem dX6_helpfulOpening_64 : decode cX6_helpfulOpening 64 = .ok (.aload_n 0, 1) := dk_42 (dk_at dksX6_helpfulOpening_2 18 rfl rfl)
theorem dX6_helpfulOpening_65 : decode cX6_helpfulOpening 65 = .ok (.getfield 13, 3) := dk_180 0 13 (dk_at dksX6_helpfulOpening_2 19 rfl rfl)
theorem dX6_helpfulOpening_68 : decode cX6_helpfulOpening 68 = .ok (.bipush 27, 2) := dk_16 27 (dk_at dksX6_helpfulOpening_2 22 rfl rfl)
theorem dX6_helpfulOpening_70 : decode cX6_helpfulOpening 70 = .ok (.iload_n 3, 1) := dk_29 (dk_at dksX6_helpfulOpening_3 0 rfl rfl)
theorem dX6_helpfulOpening_71 : decode cX6_helpfulOpening 71 = .ok (.iadd, 1) := dk_96 (dk_at dksX6_helpfulOpening_3 1 rfl rfl)
theorem dX6_helpfulOpening_72 : decode cX6_helpfulOpening 72 = .ok (.iaload, 1) := dk_46 (dk_at dksX6_helpfulOpening_3 2 rfl rfl)
theorem dX6_helpfulOpening_73 : decode cX6_helpfulOpening 73 = .ok (.ifCond .ne 38, 3) := dk_154 0 38 (dk_at dksX6_helpfulOpening_3 3 rfl rfl)
theorem dX6_helpfulOpening_76 : decode cX6_helpfulOpening 76 = .ok (.aload_n 0, 1) := dk_42 (dk_at dksX6_helpfulOpening_3 6 rfl rfl)
theorem dX6_helpfulOpening_77 : decode cX6_helpfulOpening 77 = .ok (.getfield 26, 3) := dk_180 0 26 (dk_at dksX6_helpfulOpening_3 7 rfl rfl)
theorem dX6_helpfulOpening_80 : decode cX6_helpfulOpening 80 = .ok (.bipush 27, 2) := dk_16 27 (dk_at dksX6_helpfulOpening_3 10 rfl rfl)
theorem dX6_helpfulOpening_82 : decode cX6_helpfulOpening 82 = .ok (.iload_n 3, 1) := dk_29 (dk_at dksX6_helpfulOpening_3 12 rfl rfl)
theorem dX6_helpfulOpening_83 : decode cX6_helpfulOpening 83 = .ok (.iadd, 1) := dk_96 (dk_at dksX6_helpfulOpening_3 13 rfl rfl)
theorem dX6_helpfulOpening_84 : decode cX6_helpfulOpening 84 = .ok (.iconst 1, 1) := dk_4 (dk_at dksX6_helpfulOpening_3 14 rfl rfl)
theorem dX6_helpfulOpening_85 : decode cX6_helpfulOpening 85 = .ok (.iastore, 1) := dk_79 (dk_at dksX6_helpfulOpening_3 15 rfl rfl)
theorem dX6_helpfulOpening_86 : decode cX6_helpfulOpening 86 = .ok (.aload_n 0, 1) := dk_42 (dk_at dksX6_helpfulOpening_3 16 rfl rfl)
theorem dX6_helpfulOpening_87 : decode cX6_helpfulOpening 87 = .ok (.aload_n 0, 1) := dk_42 (dk_at dksX6_helpfulOpening_3 17 rfl rfl)
theorem dX6_helpfulOpening_88 : decode cX6_helpfulOpening 88 = .ok (.getfield 26, 3) := dk_180 0 26 (dk_at dksX6_helpfulOpening_3 18 rfl rfl)
theorem dX6_helpfulOpening_91 : decode cX6_helpfulOpening 91 = .ok (.iload_n 1, 1) := dk_27 (dk_at dksX6_helpfulOpening_3 21 rfl rfl)
theorem dX6_helpfulOpening_92 : decode cX6_helpfulOpening 92 = .ok (.iload_n 2, 1) := dk_28 (dk_at dksX6_helpfulOpening_3 22 rfl rfl)
theorem dX6_helpfulOpening_93 : decode cX6_helpfulOpening 93 = .ok (.invokevirtual 267, 3) := dk_182 1 11 (dk_at dksX6_helpfulOpening_4 0 rfl rfl)
theorem dX6_helpfulOpening_96 : decode cX6_helpfulOpening 96 = .ok (.ifCond .eq 5, 3) := dk_153 0 5 (dk_at dksX6_helpfulOpening_4 3 rfl rfl)
theorem dX6_helpfulOpening_99 : decode cX6_helpfulOpening 99 = .ok (.iload_n 3, 1) := dk_29 (dk_at dksX6_helpfulOpening_4 6 rfl rfl)
theorem dX6_helpfulOpening_100 : decode cX6_helpfulOpening 100 = .ok (.ireturn, 1) := dk_172 (dk_at dksX6_helpfulOpening_4 7 rfl rfl)
theorem dX6_helpfulOpening_101 : decode cX6_helpfulOpening 101 = .ok (.aload_n 0, 1) := dk_42 (dk_at dksX6_helpfulOpening_4 8 rfl rfl)
theorem dX6_helpfulOpening_102 : decode cX6_helpfulOpening 102 = .ok (.getfield 26, 3) := dk_180 0 26 (dk_at dksX6_helpfulOpening_4 9 rfl rfl)
theorem dX6_helpfulOpening_105 : decode cX6_helpfulOpening 105 = .ok (.bipush 27, 2) := dk_16 27 (dk_at dksX6_helpfulOpening_4 12 rfl rfl)
theorem dX6_helpfulOpening_107 : decode cX6_helpfulOpening 107 = .ok (.iload_n 3, 1) := dk_29 (dk_at dksX6_helpfulOpening_4 14 rfl rfl)
theorem dX6_helpfulOpening_108 : decode cX6_helpfulOpening 108 = .ok (.iadd, 1) := dk_96 (dk_at dksX6_helpfulOpening_4 15 rfl rfl)
theorem dX6_helpfulOpening_109 : decode cX6_helpfulOpening 109 = .ok (.iconst 0, 1) := dk_3 (dk_at dksX6_helpfulOpening_4 16 rfl rfl)
theorem dX6_helpfulOpening_110 : decode cX6_helpfulOpening 110 = .ok (.iastore, 1) := dk_79 (dk_at dksX6_helpfulOpening_4 17 rfl rfl)
theorem dX6_helpfulOpening_111 : decode cX6_helpfulOpening 111 = .ok (.iinc 3 1, 3) := dk_132 3 1 (dk_at dksX6_helpfulOpening_4 18 rfl rfl)
theorem dX6_helpfulOpening_114 : decode cX6_helpfulOpening 114 = .ok (.goto (-81), 3) := dk_167 255 175 (dk_at dksX6_helpfulOpening_4 21 rfl rfl)
theorem dX6_helpfulOpening_117 : decode cX6_helpfulOpening 117 = .ok (.iconst (-1), 1) := dk_2 (dk_at dksX6_helpfulOpening_5 0 rfl rfl)
theorem dX6_helpfulOpening_118 : decode cX6_helpfulOpening 118 = .ok (.ireturn, 1) := dk_172 (dk_at dksX6_helpfulOpening_5 1 rfl rfl)
abbrev cX6_reachableInns : ByteArray := prog_12_method_106_code
def yX6_reachableInns : MethodName := ⟨RX6, "reachableInns", "(I)I"⟩
def dkwX6_reachableInns_3 : List UInt8 := [28, 172]
abbrev dktX6_reachableInns_3 : List UInt8 := dkwX6_reachableInns_3 ++ []
def dkwX6_reachableInns_2 : List UInt8 := [180, 0, 13, 27, 29, 182, 1, 11, 153, 0, 7, 4, 167, 0, 4, 3, 96, 61, 132, 3, 1, 167, 255, 214]
abbrev dktX6_reachableInns_2 : List UInt8 := dkwX6_reachableInns_2 ++ dktX6_reachableInns_3
def dkwX6_reachableInns_1 : List UInt8 := [3, 62, 29, 16, 12, 162, 0, 42, 28, 42, 180, 0, 13, 6, 29, 96, 46, 4, 160, 0, 20, 42, 42]
abbrev dktX6_reachableInns_1 : List UInt8 := dkwX6_reachableInns_1 ++ dktX6_reachableInns_2
def dkwX6_reachableInns_0 : List UInt8 := [42, 3, 181, 0, 3, 42, 180, 0, 13, 27, 184, 0, 85, 154, 0, 9, 42, 4, 182, 0, 136, 172, 3, 61]
abbrev dktX6_reachableInns_0 : List UInt8 := dkwX6_reachableInns_0 ++ dktX6_reachableInns_1
theorem dksX6_reachableInns_0 : cX6_reachableInns.data.toList.drop 0 = dktX6_reachableInns_0 := by decide +kernel
theorem dksX6_reachableInns_1 : cX6_reachableInns.data.toList.drop 24 = dktX6_reachableInns_1 := dk_seg dksX6_reachableInns_0 24 rfl rfl
theorem dksX6_reachableInns_2 : cX6_reachableInns.data.toList.drop 47 = dktX6_reachableInns_2 := dk_seg dksX6_reachableInns_1 23 rfl rfl
theorem dksX6_reachableInns_3 : cX6_reachableInns.data.toList.drop 71 = dktX6_reachableInns_3 := dk_seg dksX6_reachableInns_2 24 rfl rfl
theorem dX6_reachableInns_0 : decode cX6_reachableInns 0 = .ok (.aload_n 0, 1) := dk_42 (dk_at dksX6_reachableInns_0 0 rfl rfl)
theorem dX6_reachableInns_1 : decode cX6_reachableInns 1 = .ok (.iconst 0, 1) := dk_3 (dk_at dksX6_reachableInns_0 1 rfl rfl)
theorem dX6_reachableInns_2 : decode cX6_reachableInns 2 = .ok (.putfield 3, 3) := dk_181 0 3 (dk_at dksX6_reachableInns_0 2 rfl rfl)
theorem dX6_reachableInns_5 : decode cX6_reachableInns 5 = .ok (.aload_n 0, 1) := dk_42 (dk_at dksX6_reachableInns_0 5 rfl rfl)
theorem dX6_reachableInns_6 : decode cX6_reachableInns 6 = .ok (.getfield 13, 3) := dk_180 0 13 (dk_at dksX6_reachableInns_0 6 rfl rfl)
theorem dX6_reachableInns_9 : decode cX6_reachableInns 9 = .ok (.iload_n 1, 1) := dk_27 (dk_at dksX6_reachableInns_0 9 rfl rfl)
theorem dX6_reachableInns_10 : decode cX6_reachableInns 10 = .ok (.invokestatic 85, 3) := dk_184 0 85 (dk_at dksX6_reachableInns_0 10 rfl rfl)
theorem dX6_reachableInns_13 : decode cX6_reachableInns 13 = .ok (.ifCond .ne 9, 3) := dk_154 0 9 (dk_at dksX6_reachableInns_0 13 rfl rfl)
theorem dX6_reachableInns_16 : decode cX6_reachableInns 16 = .ok (.aload_n 0, 1) := dk_42 (dk_at dksX6_reachableInns_0 16 rfl rfl)
theorem dX6_reachableInns_17 : decode cX6_reachableInns 17 = .ok (.iconst 1, 1) := dk_4 (dk_at dksX6_reachableInns_0 17 rfl rfl)
theorem dX6_reachableInns_18 : decode cX6_reachableInns 18 = .ok (.invokevirtual 136, 3) := dk_182 0 136 (dk_at dksX6_reachableInns_0 18 rfl rfl)
theorem dX6_reachableInns_21 : decode cX6_reachableInns 21 = .ok (.ireturn, 1) := dk_172 (dk_at dksX6_reachableInns_0 21 rfl rfl)
theorem dX6_reachableInns_22 : decode cX6_reachableInns 22 = .ok (.iconst 0, 1) := dk_3 (dk_at dksX6_reachableInns_0 22 rfl rfl)
theorem dX6_reachableInns_23 : decode cX6_reachableInns 23 = .ok (.istore_n 2, 1) := dk_61 (dk_at dksX6_reachableInns_0 23 rfl rfl)
theorem dX6_reachableInns_24 : decode cX6_reachableInns 24 = .ok (.iconst 0, 1) := dk_3 (dk_at dksX6_reachableInns_1 0 rfl rfl)
theorem dX6_reachableInns_25 : decode cX6_reachableInns 25 = .ok (.istore_n 3, 1) := dk_62 (dk_at dksX6_reachableInns_1 1 rfl rfl)
theorem dX6_reachableInns_26 : decode cX6_reachableInns 26 = .ok (.iload_n 3, 1) := dk_29 (dk_at dksX6_reachableInns_1 2 rfl rfl)
theorem dX6_reachableInns_27 : decode cX6_reachableInns 27 = .ok (.bipush 12, 2) := dk_16 12 (dk_at dksX6_reachableInns_1 3 rfl rfl)
theorem dX6_reachableInns_29 : decode cX6_reachableInns 29 = .ok (.if_icmp .ge 42, 3) := dk_162 0 42 (dk_at dksX6_reachableInns_1 5 rfl rfl)
theorem dX6_reachableInns_32 : decode cX6_reachableInns 32 = .ok (.iload_n 2, 1) := dk_28 (dk_at dksX6_reachableInns_1 8 rfl rfl)
theorem dX6_reachableInns_33 : decode cX6_reachableInns 33 = .ok (.aload_n 0, 1) := dk_42 (dk_at dksX6_reachableInns_1 9 rfl rfl)
theorem dX6_reachableInns_34 : decode cX6_reachableInns 34 = .ok (.getfield 13, 3) := dk_180 0 13 (dk_at dksX6_reachableInns_1 10 rfl rfl)
theorem dX6_reachableInns_37 : decode cX6_reachableInns 37 = .ok (.iconst 3, 1) := dk_6 (dk_at dksX6_reachableInns_1 13 rfl rfl)
theorem dX6_reachableInns_38 : decode cX6_reachableInns 38 = .ok (.iload_n 3, 1) := dk_29 (dk_at dksX6_reachableInns_1 14 rfl rfl)
theorem dX6_reachableInns_39 : decode cX6_reachableInns 39 = .ok (.iadd, 1) := dk_96 (dk_at dksX6_reachableInns_1 15 rfl rfl)
theorem dX6_reachableInns_40 : decode cX6_reachableInns 40 = .ok (.iaload, 1) := dk_46 (dk_at dksX6_reachableInns_1 16 rfl rfl)
theorem dX6_reachableInns_41 : decode cX6_reachableInns 41 = .ok (.iconst 1, 1) := dk_4 (dk_at dksX6_reachableInns_1 17 rfl rfl)
theorem dX6_reachableInns_42 : decode cX6_reachableInns 42 = .ok (.if_icmp .ne 20, 3) := dk_160 0 20 (dk_at dksX6_reachableInns_1 18 rfl rfl)
theorem dX6_reachableInns_45 : decode cX6_reachableInns 45 = .ok (.aload_n 0, 1) := dk_42 (dk_at dksX6_reachableInns_1 21 rfl rfl)
theorem dX6_reachableInns_46 : decode cX6_reachableInns 46 = .ok (.aload_n 0, 1) := dk_42 (dk_at dksX6_reachableInns_1 22 rfl rfl)
theorem dX6_reachableInns_47 : decode cX6_reachableInns 47 = .ok (.getfield 13, 3) := dk_180 0 13 (dk_at dksX6_reachableInns_2 0 rfl rfl)
theorem dX6_reachableInns_50 : decode cX6_reachableInns 50 = .ok (.iload_n 1, 1) := dk_27 (dk_at dksX6_reachableInns_2 3 rfl rfl)
theorem dX6_reachableInns_51 : decode cX6_reachableInns 51 = .ok (.iload_n 3, 1) := dk_29 (dk_at dksX6_reachableInns_2 4 rfl rfl)
theorem dX6_reachableInns_52 : decode cX6_reachableInns 52 = .ok (.invokevirtual 267, 3) := dk_182 1 11 (dk_at dksX6_reachableInns_2 5 rfl rfl)
theorem dX6_reachableInns_55 : decode cX6_reachableInns 55 = .ok (.ifCond .eq 7, 3) := dk_153 0 7 (dk_at dksX6_reachableInns_2 8 rfl rfl)
theorem dX6_reachableInns_58 : decode cX6_reachableInns 58 = .ok (.iconst 1, 1) := dk_4 (dk_at dksX6_reachableInns_2 11 rfl rfl)
theorem dX6_reachableInns_59 : decode cX6_reachableInns 59 = .ok (.goto 4, 3) := dk_167 0 4 (dk_at dksX6_reachableInns_2 12 rfl rfl)
theorem dX6_reachableInns_62 : decode cX6_reachableInns 62 = .ok (.iconst 0, 1) := dk_3 (dk_at dksX6_reachableInns_2 15 rfl rfl)
theorem dX6_reachableInns_63 : decode cX6_reachableInns 63 = .ok (.iadd, 1) := dk_96 (dk_at dksX6_reachableInns_2 16 rfl rfl)
theorem dX6_reachableInns_64 : decode cX6_reachableInns 64 = .ok (.istore_n 2, 1) := dk_61 (dk_at dksX6_reachableInns_2 17 rfl rfl)
theorem dX6_reachableInns_65 : decode cX6_reachableInns 65 = .ok (.iinc 3 1, 3) := dk_132 3 1 (dk_at dksX6_reachableInns_2 18 rfl rfl)
theorem dX6_reachableInns_68 : decode cX6_reachableInns 68 = .ok (.goto (-42), 3) := dk_167 255 214 (dk_at dksX6_reachableInns_2 21 rfl rfl)
theorem dX6_reachableInns_71 : decode cX6_reachableInns 71 = .ok (.iload_n 2, 1) := dk_28 (dk_at dksX6_reachableInns_3 0 rfl rfl)
theorem dX6_reachableInns_72 : decode cX6_reachableInns 72 = .ok (.ireturn, 1) := dk_172 (dk_at dksX6_reachableInns_3 1 rfl rfl)
abbrev cX6_skippingStages : ByteArray := prog_12_method_107_code
def yX6_skippingStages : MethodName := ⟨RX6, "skippingStages", "(II)I"⟩
def dkwX6_skippingStages_1 : List UInt8 := [180, 0, 13, 27, 28, 182, 1, 11, 153, 0, 10, 42, 180, 0, 120, 167, 0, 4, 2, 172]
abbrev dktX6_skippingStages_1 : List UInt8 := dkwX6_skippingStages_1 ++ []
def dkwX6_skippingStages_0 : List UInt8 := [42, 3, 181, 0, 3, 42, 27, 28, 182, 1, 33, 154, 0, 9, 42, 4, 182, 0, 136, 172, 42, 42]
abbrev dktX6_skippingStages_0 : List UInt8 := dkwX6_skippingStages_0 ++ dktX6_skippingStages_1
theorem dksX6_skippingStages_0 : cX6_skippingStages.data.toList.drop 0 = dktX6_skippingStages_0 := by decide +kernel
theorem dksX6_skippingStages_1 : cX6_skippingStages.data.toList.drop 22 = dktX6_skippingStages_1 := dk_seg dksX6_skippingStages_0 22 rfl rfl
theorem dX6_skippingStages_0 : decode cX6_skippingStages 0 = .ok (.aload_n 0, 1) := dk_42 (dk_at dksX6_skippingStages_0 0 rfl rfl)
theorem dX6_skippingStages_1 : decode cX6_skippingStages 1 = .ok (.iconst 0, 1) := dk_3 (dk_at dksX6_skippingStages_0 1 rfl rfl)
theorem dX6_skippingStages_2 : decode cX6_skippingStages 2 = .ok (.putfield 3, 3) := dk_181 0 3 (dk_at dksX6_skippingStages_0 2 rfl rfl)
theorem dX6_skippingStages_5 : decode cX6_skippingStages 5 = .ok (.aload_n 0, 1) := dk_42 (dk_at dksX6_skippingStages_0 5 rfl rfl)
theorem dX6_skippingStages_6 : decode cX6_skippingStages 6 = .ok (.iload_n 1, 1) := dk_27 (dk_at dksX6_skippingStages_0 6 rfl rfl)
theorem dX6_skippingStages_7 : decode cX6_skippingStages 7 = .ok (.iload_n 2, 1) := dk_28 (dk_at dksX6_skippingStages_0 7 rfl rfl)
theorem dX6_skippingStages_8 : decode cX6_skippingStages 8 = .ok (.invokevirtual 289, 3) := dk_182 1 33 (dk_at dksX6_skippingStages_0 8 rfl rfl)
theorem dX6_skippingStages_11 : decode cX6_skippingStages 11 = .ok (.ifCond .ne 9, 3) := dk_154 0 9 (dk_at dksX6_skippingStages_0 11 rfl rfl)
theorem dX6_skippingStages_14 : decode cX6_skippingStages 14 = .ok (.aload_n 0, 1) := dk_42 (dk_at dksX6_skippingStages_0 14 rfl rfl)
theorem dX6_skippingStages_15 : decode cX6_skippingStages 15 = .ok (.iconst 1, 1) := dk_4 (dk_at dksX6_skippingStages_0 15 rfl rfl)
theorem dX6_skippingStages_16 : decode cX6_skippingStages 16 = .ok (.invokevirtual 136, 3) := dk_182 0 136 (dk_at dksX6_skippingStages_0 16 rfl rfl)
theorem dX6_skippingStages_19 : decode cX6_skippingStages 19 = .ok (.ireturn, 1) := dk_172 (dk_at dksX6_skippingStages_0 19 rfl rfl)
theorem dX6_skippingStages_20 : decode cX6_skippingStages 20 = .ok (.aload_n 0, 1) := dk_42 (dk_at dksX6_skippingStages_0 20 rfl rfl)
theorem dX6_skippingStages_21 : decode cX6_skippingStages 21 = .ok (.aload_n 0, 1) := dk_42 (dk_at dksX6_skippingStages_0 21 rfl rfl)
theorem dX6_skippingStages_22 : decode cX6_skippingStages 22 = .ok (.getfield 13, 3) := dk_180 0 13 (dk_at dksX6_skippingStages_1 0 rfl rfl)
theorem dX6_skippingStages_25 : decode cX6_skippingStages 25 = .ok (.iload_n 1, 1) := dk_27 (dk_at dksX6_skippingStages_1 3 rfl rfl)
theorem dX6_skippingStages_26 : decode cX6_skippingStages 26 = .ok (.iload_n 2, 1) := dk_28 (dk_at dksX6_skippingStages_1 4 rfl rfl)
theorem dX6_skippingStages_27 : decode cX6_skippingStages 27 = .ok (.invokevirtual 267, 3) := dk_182 1 11 (dk_at dksX6_skippingStages_1 5 rfl rfl)
theorem dX6_skippingStages_30 : decode cX6_skippingStages 30 = .ok (.ifCond .eq 10, 3) := dk_153 0 10 (dk_at dksX6_skippingStages_1 8 rfl rfl)
theorem dX6_skippingStages_33 : decode cX6_skippingStages 33 = .ok (.aload_n 0, 1) := dk_42 (dk_at dksX6_skippingStages_1 11 rfl rfl)
theorem dX6_skippingStages_34 : decode cX6_skippingStages 34 = .ok (.getfield 120, 3) := dk_180 0 120 (dk_at dksX6_skippingStages_1 12 rfl rfl)
theorem dX6_skippingStages_37 : decode cX6_skippingStages 37 = .ok (.goto 4, 3) := dk_167 0 4 (dk_at dksX6_skippingStages_1 15 rfl rfl)
theorem dX6_skippingStages_40 : decode cX6_skippingStages 40 = .ok (.iconst (-1), 1) := dk_2 (dk_at dksX6_skippingStages_1 18 rfl rfl)
theorem dX6_skippingStages_41 : decode cX6_skippingStages 41 = .ok (.ireturn, 1) := dk_172 (dk_at dksX6_skippingStages_1 19 rfl rfl)
abbrev cX6_nearestOpenInn : ByteArray := prog_12_method_108_code
def yX6_nearestOpenInn : MethodName := ⟨RX6, "nearestOpenInn", "(I)I"⟩
def dkwX6_nearestOpenInn_5 : List UInt8 := [96, 46, 162, 0, 7, 29, 167, 0, 4, 28, 61, 132, 3, 1, 167, 255, 149, 28, 172]
abbrev dktX6_nearestOpenInn_5 : List UInt8 := dkwX6_nearestOpenInn_5 ++ []
def dkwX6_nearestOpenInn_4 : List UInt8 := [157, 0, 29, 21, 4, 154, 0, 28, 42, 180, 0, 13, 16, 15, 29, 96, 46, 42, 180, 0, 13, 16, 15, 28]
abbrev dktX6_nearestOpenInn_4 : List UInt8 := dkwX6_nearestOpenInn_4 ++ dktX6_nearestOpenInn_5
def dkwX6_nearestOpenInn_3 : List UInt8 := [42, 180, 0, 13, 27, 28, 184, 0, 110, 42, 180, 0, 13, 27, 29, 184, 0, 110, 100, 54, 4, 21, 4]
abbrev dktX6_nearestOpenInn_3 : List UInt8 := dkwX6_nearestOpenInn_3 ++ dktX6_nearestOpenInn_4
def dkwX6_nearestOpenInn_2 : List UInt8 := [42, 180, 0, 13, 16, 27, 29, 96, 46, 154, 0, 6, 167, 0, 70, 28, 2, 160, 0, 7, 4, 167, 0, 22]
abbrev dktX6_nearestOpenInn_2 : List UInt8 := dkwX6_nearestOpenInn_2 ++ dktX6_nearestOpenInn_3
def dkwX6_nearestOpenInn_1 : List UInt8 := [3, 62, 29, 16, 12, 162, 0, 107, 29, 27, 159, 0, 96, 42, 180, 0, 13, 6, 29, 96, 46, 153, 0, 85]
abbrev dktX6_nearestOpenInn_1 : List UInt8 := dkwX6_nearestOpenInn_1 ++ dktX6_nearestOpenInn_2
def dkwX6_nearestOpenInn_0 : List UInt8 := [42, 3, 181, 0, 3, 42, 180, 0, 13, 27, 184, 0, 85, 154, 0, 9, 42, 4, 182, 0, 136, 172, 2, 61]
abbrev dktX6_nearestOpenInn_0 : List UInt8 := dkwX6_nearestOpenInn_0 ++ dktX6_nearestOpenInn_1
theorem dksX6_nearestOpenInn_0 : cX6_nearestOpenInn.data.toList.drop 0 = dktX6_nearestOpenInn_0 := by decide +kernel
theorem dksX6_nearestOpenInn_1 : cX6_nearestOpenInn.data.toList.drop 24 = dktX6_nearestOpenInn_1 := dk_seg dksX6_nearestOpenInn_0 24 rfl rfl
theorem dksX6_nearestOpenInn_2 : cX6_nearestOpenInn.data.toList.drop 48 = dktX6_nearestOpenInn_2 := dk_seg dksX6_nearestOpenInn_1 24 rfl rfl
theorem dksX6_nearestOpenInn_3 : cX6_nearestOpenInn.data.toList.drop 72 = dktX6_nearestOpenInn_3 := dk_seg dksX6_nearestOpenInn_2 24 rfl rfl
theorem dksX6_nearestOpenInn_4 : cX6_nearestOpenInn.data.toList.drop 95 = dktX6_nearestOpenInn_4 := dk_seg dksX6_nearestOpenInn_3 23 rfl rfl
theorem dksX6_nearestOpenInn_5 : cX6_nearestOpenInn.data.toList.drop 119 = dktX6_nearestOpenInn_5 := dk_seg dksX6_nearestOpenInn_4 24 rfl rfl
theorem dX6_nearestOpenInn_0 : decode cX6_nearestOpenInn 0 = .ok (.aload_n 0, 1) := dk_42 (dk_at dksX6_nearestOpenInn_0 0 rfl rfl)
theorem dX6_nearestOpenInn_1 : decode cX6_nearestOpenInn 1 = .ok (.iconst 0, 1) := dk_3 (dk_at dksX6_nearestOpenInn_0 1 rfl rfl)
theorem dX6_nearestOpenInn_2 : decode cX6_nearestOpenInn 2 = .ok (.putfield 3, 3) := dk_181 0 3 (dk_at dksX6_nearestOpenInn_0 2 rfl rfl)
theorem dX6_nearestOpenInn_5 : decode cX6_nearestOpenInn 5 = .ok (.aload_n 0, 1) := dk_42 (dk_at dksX6_nearestOpenInn_0 5 rfl rfl)
theorem dX6_nearestOpenInn_6 : decode cX6_nearestOpenInn 6 = .ok (.getfield 13, 3) := dk_180 0 13 (dk_at dksX6_nearestOpenInn_0 6 rfl rfl)
theorem dX6_nearestOpenInn_9 : decode cX6_nearestOpenInn 9 = .ok (.iload_n 1, 1) := dk_27 (dk_at dksX6_nearestOpenInn_0 9 rfl rfl)
theorem dX6_nearestOpenInn_10 : decode cX6_nearestOpenInn 10 = .ok (.invokestatic 85, 3) := dk_184 0 85 (dk_at dksX6_nearestOpenInn_0 10 rfl rfl)
theorem dX6_nearestOpenInn_13 : decode cX6_nearestOpenInn 13 = .ok (.ifCond .ne 9, 3) := dk_154 0 9 (dk_at dksX6_nearestOpenInn_0 13 rfl rfl)
theorem dX6_nearestOpenInn_16 : decode cX6_nearestOpenInn 16 = .ok (.aload_n 0, 1) := dk_42 (dk_at dksX6_nearestOpenInn_0 16 rfl rfl)
theorem dX6_nearestOpenInn_17 : decode cX6_nearestOpenInn 17 = .ok (.iconst 1, 1) := dk_4 (dk_at dksX6_nearestOpenInn_0 17 rfl rfl)
theorem dX6_nearestOpenInn_18 : decode cX6_nearestOpenInn 18 = .ok (.invokevirtual 136, 3) := dk_182 0 136 (dk_at dksX6_nearestOpenInn_0 18 rfl rfl)
theorem dX6_nearestOpenInn_21 : decode cX6_nearestOpenInn 21 = .ok (.ireturn, 1) := dk_172 (dk_at dksX6_nearestOpenInn_0 21 rfl rfl)
theorem dX6_nearestOpenInn_22 : decode cX6_nearestOpenInn 22 = .ok (.iconst (-1), 1) := dk_2 (dk_at dksX6_nearestOpenInn_0 22 rfl rfl)
theorem dX6_nearestOpenInn_23 : decode cX6_nearestOpenInn 23 = .ok (.istore_n 2, 1) := dk_61 (dk_at dksX6_nearestOpenInn_0 23 rfl rfl)
theorem dX6_nearestOpenInn_24 : decode cX6_nearestOpenInn 24 = .ok (.iconst 0, 1) := dk_3 (dk_at dksX6_nearestOpenInn_1 0 rfl rfl)
theorem dX6_nearestOpenInn_25 : decode cX6_nearestOpenInn 25 = .ok (.istore_n 3, 1) := dk_62 (dk_at dksX6_nearestOpenInn_1 1 rfl rfl)
theorem dX6_nearestOpenInn_26 : decode cX6_nearestOpenInn 26 = .ok (.iload_n 3, 1) := dk_29 (dk_at dksX6_nearestOpenInn_1 2 rfl rfl)
theorem dX6_nearestOpenInn_27 : decode cX6_nearestOpenInn 27 = .ok (.bipush 12, 2) := dk_16 12 (dk_at dksX6_nearestOpenInn_1 3 rfl rfl)
theorem dX6_nearestOpenInn_29 : decode cX6_nearestOpenInn 29 = .ok (.if_icmp .ge 107, 3) := dk_162 0 107 (dk_at dksX6_nearestOpenInn_1 5 rfl rfl)
theorem dX6_nearestOpenInn_32 : decode cX6_nearestOpenInn 32 = .ok (.iload_n 3, 1) := dk_29 (dk_at dksX6_nearestOpenInn_1 8 rfl rfl)
theorem dX6_nearestOpenInn_33 : decode cX6_nearestOpenInn 33 = .ok (.iload_n 1, 1) := dk_27 (dk_at dksX6_nearestOpenInn_1 9 rfl rfl)
theorem dX6_nearestOpenInn_34 : decode cX6_nearestOpenInn 34 = .ok (.if_icmp .eq 96, 3) := dk_159 0 96 (dk_at dksX6_nearestOpenInn_1 10 rfl rfl)
theorem dX6_nearestOpenInn_37 : decode cX6_nearestOpenInn 37 = .ok (.aload_n 0, 1) := dk_42 (dk_at dksX6_nearestOpenInn_1 13 rfl rfl)
theorem dX6_nearestOpenInn_38 : decode cX6_nearestOpenInn 38 = .ok (.getfield 13, 3) := dk_180 0 13 (dk_at dksX6_nearestOpenInn_1 14 rfl rfl)
theorem dX6_nearestOpenInn_41 : decode cX6_nearestOpenInn 41 = .ok (.iconst 3, 1) := dk_6 (dk_at dksX6_nearestOpenInn_1 17 rfl rfl)
theorem dX6_nearestOpenInn_42 : decode cX6_nearestOpenInn 42 = .ok (.iload_n 3, 1) := dk_29 (dk_at dksX6_nearestOpenInn_1 18 rfl rfl)
theorem dX6_nearestOpenInn_43 : decode cX6_nearestOpenInn 43 = .ok (.iadd, 1) := dk_96 (dk_at dksX6_nearestOpenInn_1 19 rfl rfl)
theorem dX6_nearestOpenInn_44 : decode cX6_nearestOpenInn 44 = .ok (.iaload, 1) := dk_46 (dk_at dksX6_nearestOpenInn_1 20 rfl rfl)
theorem dX6_nearestOpenInn_45 : decode cX6_nearestOpenInn 45 = .ok (.ifCond .eq 85, 3) := dk_153 0 85 (dk_at dksX6_nearestOpenInn_1 21 rfl rfl)
theorem dX6_nearestOpenInn_48 : decode cX6_nearestOpenInn 48 = .ok (.aload_n 0, 1) := dk_42 (dk_at dksX6_nearestOpenInn_2 0 rfl rfl)
theorem dX6_nearestOpenInn_49 : decode cX6_nearestOpenInn 49 = .ok (.getfield 13, 3) := dk_180 0 13 (dk_at dksX6_nearestOpenInn_2 1 rfl rfl)
theorem dX6_nearestOpenInn_52 : decode cX6_nearestOpenInn 52 = .ok (.bipush 27, 2) := dk_16 27 (dk_at dksX6_nearestOpenInn_2 4 rfl rfl)
theorem dX6_nearestOpenInn_54 : decode cX6_nearestOpenInn 54 = .ok (.iload_n 3, 1) := dk_29 (dk_at dksX6_nearestOpenInn_2 6 rfl rfl)
theorem dX6_nearestOpenInn_55 : decode cX6_nearestOpenInn 55 = .ok (.iadd, 1) := dk_96 (dk_at dksX6_nearestOpenInn_2 7 rfl rfl)
theorem dX6_nearestOpenInn_56 : decode cX6_nearestOpenInn 56 = .ok (.iaload, 1) := dk_46 (dk_at dksX6_nearestOpenInn_2 8 rfl rfl)
theorem dX6_nearestOpenInn_57 : decode cX6_nearestOpenInn 57 = .ok (.ifCond .ne 6, 3) := dk_154 0 6 (dk_at dksX6_nearestOpenInn_2 9 rfl rfl)
theorem dX6_nearestOpenInn_60 : decode cX6_nearestOpenInn 60 = .ok (.goto 70, 3) := dk_167 0 70 (dk_at dksX6_nearestOpenInn_2 12 rfl rfl)
theorem dX6_nearestOpenInn_63 : decode cX6_nearestOpenInn 63 = .ok (.iload_n 2, 1) := dk_28 (dk_at dksX6_nearestOpenInn_2 15 rfl rfl)
theorem dX6_nearestOpenInn_64 : decode cX6_nearestOpenInn 64 = .ok (.iconst (-1), 1) := dk_2 (dk_at dksX6_nearestOpenInn_2 16 rfl rfl)
theorem dX6_nearestOpenInn_65 : decode cX6_nearestOpenInn 65 = .ok (.if_icmp .ne 7, 3) := dk_160 0 7 (dk_at dksX6_nearestOpenInn_2 17 rfl rfl)
theorem dX6_nearestOpenInn_68 : decode cX6_nearestOpenInn 68 = .ok (.iconst 1, 1) := dk_4 (dk_at dksX6_nearestOpenInn_2 20 rfl rfl)
theorem dX6_nearestOpenInn_69 : decode cX6_nearestOpenInn 69 = .ok (.goto 22, 3) := dk_167 0 22 (dk_at dksX6_nearestOpenInn_2 21 rfl rfl)
theorem dX6_nearestOpenInn_72 : decode cX6_nearestOpenInn 72 = .ok (.aload_n 0, 1) := dk_42 (dk_at dksX6_nearestOpenInn_3 0 rfl rfl)
theorem dX6_nearestOpenInn_73 : decode cX6_nearestOpenInn 73 = .ok (.getfield 13, 3) := dk_180 0 13 (dk_at dksX6_nearestOpenInn_3 1 rfl rfl)
theorem dX6_nearestOpenInn_76 : decode cX6_nearestOpenInn 76 = .ok (.iload_n 1, 1) := dk_27 (dk_at dksX6_nearestOpenInn_3 4 rfl rfl)
theorem dX6_nearestOpenInn_77 : decode cX6_nearestOpenInn 77 = .ok (.iload_n 2, 1) := dk_28 (dk_at dksX6_nearestOpenInn_3 5 rfl rfl)
theorem dX6_nearestOpenInn_78 : decode cX6_nearestOpenInn 78 = .ok (.invokestatic 110, 3) := dk_184 0 110 (dk_at dksX6_nearestOpenInn_3 6 rfl rfl)
theorem dX6_nearestOpenInn_81 : decode cX6_nearestOpenInn 81 = .ok (.aload_n 0, 1) := dk_42 (dk_at dksX6_nearestOpenInn_3 9 rfl rfl)
theorem dX6_nearestOpenInn_82 : decode cX6_nearestOpenInn 82 = .ok (.getfield 13, 3) := dk_180 0 13 (dk_at dksX6_nearestOpenInn_3 10 rfl rfl)
theorem dX6_nearestOpenInn_85 : decode cX6_nearestOpenInn 85 = .ok (.iload_n 1, 1) := dk_27 (dk_at dksX6_nearestOpenInn_3 13 rfl rfl)
theorem dX6_nearestOpenInn_86 : decode cX6_nearestOpenInn 86 = .ok (.iload_n 3, 1) := dk_29 (dk_at dksX6_nearestOpenInn_3 14 rfl rfl)
theorem dX6_nearestOpenInn_87 : decode cX6_nearestOpenInn 87 = .ok (.invokestatic 110, 3) := dk_184 0 110 (dk_at dksX6_nearestOpenInn_3 15 rfl rfl)
theorem dX6_nearestOpenInn_90 : decode cX6_nearestOpenInn 90 = .ok (.isub, 1) := dk_100 (dk_at dksX6_nearestOpenInn_3 18 rfl rfl)
theorem dX6_nearestOpenInn_91 : decode cX6_nearestOpenInn 91 = .ok (.istore 4, 2) := dk_54 4 (dk_at dksX6_nearestOpenInn_3 19 rfl rfl)
theorem dX6_nearestOpenInn_93 : decode cX6_nearestOpenInn 93 = .ok (.iload 4, 2) := dk_21 4 (dk_at dksX6_nearestOpenInn_3 21 rfl rfl)
theorem dX6_nearestOpenInn_95 : decode cX6_nearestOpenInn 95 = .ok (.ifCond .gt 29, 3) := dk_157 0 29 (dk_at dksX6_nearestOpenInn_4 0 rfl rfl)
theorem dX6_nearestOpenInn_98 : decode cX6_nearestOpenInn 98 = .ok (.iload 4, 2) := dk_21 4 (dk_at dksX6_nearestOpenInn_4 3 rfl rfl)
theorem dX6_nearestOpenInn_100 : decode cX6_nearestOpenInn 100 = .ok (.ifCond .ne 28, 3) := dk_154 0 28 (dk_at dksX6_nearestOpenInn_4 5 rfl rfl)
theorem dX6_nearestOpenInn_103 : decode cX6_nearestOpenInn 103 = .ok (.aload_n 0, 1) := dk_42 (dk_at dksX6_nearestOpenInn_4 8 rfl rfl)
theorem dX6_nearestOpenInn_104 : decode cX6_nearestOpenInn 104 = .ok (.getfield 13, 3) := dk_180 0 13 (dk_at dksX6_nearestOpenInn_4 9 rfl rfl)
theorem dX6_nearestOpenInn_107 : decode cX6_nearestOpenInn 107 = .ok (.bipush 15, 2) := dk_16 15 (dk_at dksX6_nearestOpenInn_4 12 rfl rfl)
theorem dX6_nearestOpenInn_109 : decode cX6_nearestOpenInn 109 = .ok (.iload_n 3, 1) := dk_29 (dk_at dksX6_nearestOpenInn_4 14 rfl rfl)
theorem dX6_nearestOpenInn_110 : decode cX6_nearestOpenInn 110 = .ok (.iadd, 1) := dk_96 (dk_at dksX6_nearestOpenInn_4 15 rfl rfl)
theorem dX6_nearestOpenInn_111 : decode cX6_nearestOpenInn 111 = .ok (.iaload, 1) := dk_46 (dk_at dksX6_nearestOpenInn_4 16 rfl rfl)
theorem dX6_nearestOpenInn_112 : decode cX6_nearestOpenInn 112 = .ok (.aload_n 0, 1) := dk_42 (dk_at dksX6_nearestOpenInn_4 17 rfl rfl)
theorem dX6_nearestOpenInn_113 : decode cX6_nearestOpenInn 113 = .ok (.getfield 13, 3) := dk_180 0 13 (dk_at dksX6_nearestOpenInn_4 18 rfl rfl)
theorem dX6_nearestOpenInn_116 : decode cX6_nearestOpenInn 116 = .ok (.bipush 15, 2) := dk_16 15 (dk_at dksX6_nearestOpenInn_4 21 rfl rfl)
theorem dX6_nearestOpenInn_118 : decode cX6_nearestOpenInn 118 = .ok (.iload_n 2, 1) := dk_28 (dk_at dksX6_nearestOpenInn_4 23 rfl rfl)
theorem dX6_nearestOpenInn_119 : decode cX6_nearestOpenInn 119 = .ok (.iadd, 1) := dk_96 (dk_at dksX6_nearestOpenInn_5 0 rfl rfl)
theorem dX6_nearestOpenInn_120 : decode cX6_nearestOpenInn 120 = .ok (.iaload, 1) := dk_46 (dk_at dksX6_nearestOpenInn_5 1 rfl rfl)
theorem dX6_nearestOpenInn_121 : decode cX6_nearestOpenInn 121 = .ok (.if_icmp .ge 7, 3) := dk_162 0 7 (dk_at dksX6_nearestOpenInn_5 2 rfl rfl)
theorem dX6_nearestOpenInn_124 : decode cX6_nearestOpenInn 124 = .ok (.iload_n 3, 1) := dk_29 (dk_at dksX6_nearestOpenInn_5 5 rfl rfl)
theorem dX6_nearestOpenInn_125 : decode cX6_nearestOpenInn 125 = .ok (.goto 4, 3) := dk_167 0 4 (dk_at dksX6_nearestOpenInn_5 6 rfl rfl)
theorem dX6_nearestOpenInn_128 : decode cX6_nearestOpenInn 128 = .ok (.iload_n 2, 1) := dk_28 (dk_at dksX6_nearestOpenInn_5 9 rfl rfl)
theorem dX6_nearestOpenInn_129 : decode cX6_nearestOpenInn 129 = .ok (.istore_n 2, 1) := dk_61 (dk_at dksX6_nearestOpenInn_5 10 rfl rfl)
theorem dX6_nearestOpenInn_130 : decode cX6_nearestOpenInn 130 = .ok (.iinc 3 1, 3) := dk_132 3 1 (dk_at dksX6_nearestOpenInn_5 11 rfl rfl)
theorem dX6_nearestOpenInn_133 : decode cX6_nearestOpenInn 133 = .ok (.goto (-107), 3) := dk_167 255 149 (dk_at dksX6_nearestOpenInn_5 14 rfl rfl)
theorem dX6_nearestOpenInn_136 : decode cX6_nearestOpenInn 136 = .ok (.iload_n 2, 1) := dk_28 (dk_at dksX6_nearestOpenInn_5 17 rfl rfl)
theorem dX6_nearestOpenInn_137 : decode cX6_nearestOpenInn 137 = .ok (.ireturn, 1) := dk_172 (dk_at dksX6_nearestOpenInn_5 18 rfl rfl)
abbrev cX6_write : ByteArray := prog_12_method_117_code
def yX6_write : MethodName := ⟨RX6, "write", "()I"⟩
def dkwX6_write_6 : List UInt8 := [42, 19, 1, 77, 16, 54, 182, 1, 79, 42, 19, 1, 83, 16, 66, 182, 1, 79, 42, 180, 1, 36, 172]
abbrev dktX6_write_6 : List UInt8 := dkwX6_write_6 ++ []
def dkwX6_write_5 : List UInt8 := [182, 1, 62, 153, 0, 21, 42, 19, 1, 75, 182, 1, 47, 42, 42, 180, 0, 13, 16, 53, 46, 182, 1, 51]
abbrev dktX6_write_5 : List UInt8 := dkwX6_write_5 ++ dktX6_write_6
def dkwX6_write_4 : List UInt8 := [153, 0, 21, 42, 19, 1, 73, 182, 1, 47, 42, 42, 180, 0, 13, 16, 52, 46, 182, 1, 65, 42, 16, 53]
abbrev dktX6_write_4 : List UInt8 := dkwX6_write_4 ++ dktX6_write_5
def dkwX6_write_3 : List UInt8 := [42, 19, 1, 71, 182, 1, 47, 42, 42, 180, 0, 13, 16, 51, 46, 182, 1, 65, 42, 16, 52, 182, 1, 62]
abbrev dktX6_write_3 : List UInt8 := dkwX6_write_3 ++ dktX6_write_4
def dkwX6_write_2 : List UInt8 := [4, 160, 0, 8, 42, 27, 182, 1, 68, 132, 1, 1, 167, 255, 230, 42, 16, 51, 182, 1, 62, 153, 0, 21]
abbrev dktX6_write_2 : List UInt8 := dkwX6_write_2 ++ dktX6_write_3
def dkwX6_write_1 : List UInt8 := [180, 0, 13, 3, 46, 182, 1, 51, 3, 60, 27, 16, 12, 162, 0, 26, 42, 180, 0, 13, 6, 27, 96, 46]
abbrev dktX6_write_1 : List UInt8 := dkwX6_write_1 ++ dktX6_write_2
def dkwX6_write_0 : List UInt8 := [42, 3, 181, 0, 3, 42, 182, 0, 75, 42, 3, 181, 1, 36, 42, 18, 230, 182, 1, 47, 42, 42]
abbrev dktX6_write_0 : List UInt8 := dkwX6_write_0 ++ dktX6_write_1
theorem dksX6_write_0 : cX6_write.data.toList.drop 0 = dktX6_write_0 := by decide +kernel
theorem dksX6_write_1 : cX6_write.data.toList.drop 22 = dktX6_write_1 := dk_seg dksX6_write_0 22 rfl rfl
theorem dksX6_write_2 : cX6_write.data.toList.drop 46 = dktX6_write_2 := dk_seg dksX6_write_1 24 rfl rfl
theorem dksX6_write_3 : cX6_write.data.toList.drop 70 = dktX6_write_3 := dk_seg dksX6_write_2 24 rfl rfl
theorem dksX6_write_4 : cX6_write.data.toList.drop 94 = dktX6_write_4 := dk_seg dksX6_write_3 24 rfl rfl
theorem dksX6_write_5 : cX6_write.data.toList.drop 118 = dktX6_write_5 := dk_seg dksX6_write_4 24 rfl rfl
theorem dksX6_write_6 : cX6_write.data.toList.drop 142 = dktX6_write_6 := dk_seg dksX6_write_5 24 rfl rfl
theorem dX6_write_0 : decode cX6_write 0 = .ok (.aload_n 0, 1) := dk_42 (dk_at dksX6_write_0 0 rfl rfl)
theorem dX6_write_1 : decode cX6_write 1 = .ok (.iconst 0, 1) := dk_3 (dk_at dksX6_write_0 1 rfl rfl)
theorem dX6_write_2 : decode cX6_write 2 = .ok (.putfield 3, 3) := dk_181 0 3 (dk_at dksX6_write_0 2 rfl rfl)
theorem dX6_write_5 : decode cX6_write 5 = .ok (.aload_n 0, 1) := dk_42 (dk_at dksX6_write_0 5 rfl rfl)
theorem dX6_write_6 : decode cX6_write 6 = .ok (.invokevirtual 75, 3) := dk_182 0 75 (dk_at dksX6_write_0 6 rfl rfl)
theorem dX6_write_9 : decode cX6_write 9 = .ok (.aload_n 0, 1) := dk_42 (dk_at dksX6_write_0 9 rfl rfl)
theorem dX6_write_10 : decode cX6_write 10 = .ok (.iconst 0, 1) := dk_3 (dk_at dksX6_write_0 10 rfl rfl)
theorem dX6_write_11 : decode cX6_write 11 = .ok (.putfield 292, 3) := dk_181 1 36 (dk_at dksX6_write_0 11 rfl rfl)
theorem dX6_write_14 : decode cX6_write 14 = .ok (.aload_n 0, 1) := dk_42 (dk_at dksX6_write_0 14 rfl rfl)
theorem dX6_write_15 : decode cX6_write 15 = .ok (.ldc 230, 2) := dk_18 230 (dk_at dksX6_write_0 15 rfl rfl)
theorem dX6_write_17 : decode cX6_write 17 = .ok (.invokevirtual 303, 3) := dk_182 1 47 (dk_at dksX6_write_0 17 rfl rfl)
theorem dX6_write_20 : decode cX6_write 20 = .ok (.aload_n 0, 1) := dk_42 (dk_at dksX6_write_0 20 rfl rfl)
theorem dX6_write_21 : decode cX6_write 21 = .ok (.aload_n 0, 1) := dk_42 (dk_at dksX6_write_0 21 rfl rfl)
theorem dX6_write_22 : decode cX6_write 22 = .ok (.getfield 13, 3) := dk_180 0 13 (dk_at dksX6_write_1 0 rfl rfl)
theorem dX6_write_25 : decode cX6_write 25 = .ok (.iconst 0, 1) := dk_3 (dk_at dksX6_write_1 3 rfl rfl)
theorem dX6_write_26 : decode cX6_write 26 = .ok (.iaload, 1) := dk_46 (dk_at dksX6_write_1 4 rfl rfl)
theorem dX6_write_27 : decode cX6_write 27 = .ok (.invokevirtual 307, 3) := dk_182 1 51 (dk_at dksX6_write_1 5 rfl rfl)
theorem dX6_write_30 : decode cX6_write 30 = .ok (.iconst 0, 1) := dk_3 (dk_at dksX6_write_1 8 rfl rfl)
theorem dX6_write_31 : decode cX6_write 31 = .ok (.istore_n 1, 1) := dk_60 (dk_at dksX6_write_1 9 rfl rfl)
theorem dX6_write_32 : decode cX6_write 32 = .ok (.iload_n 1, 1) := dk_27 (dk_at dksX6_write_1 10 rfl rfl)
theorem dX6_write_33 : decode cX6_write 33 = .ok (.bipush 12, 2) := dk_16 12 (dk_at dksX6_write_1 11 rfl rfl)
theorem dX6_write_35 : decode cX6_write 35 = .ok (.if_icmp .ge 26, 3) := dk_162 0 26 (dk_at dksX6_write_1 13 rfl rfl)
theorem dX6_write_38 : decode cX6_write 38 = .ok (.aload_n 0, 1) := dk_42 (dk_at dksX6_write_1 16 rfl rfl)
theorem dX6_write_39 : decode cX6_write 39 = .ok (.getfield 13, 3) := dk_180 0 13 (dk_at dksX6_write_1 17 rfl rfl)
theorem dX6_write_42 : decode cX6_write 42 = .ok (.iconst 3, 1) := dk_6 (dk_at dksX6_write_1 20 rfl rfl)
theorem dX6_write_43 : decode cX6_write 43 = .ok (.iload_n 1, 1) := dk_27 (dk_at dksX6_write_1 21 rfl rfl)
theorem dX6_write_44 : decode cX6_write 44 = .ok (.iadd, 1) := dk_96 (dk_at dksX6_write_1 22 rfl rfl)
theorem dX6_write_45 : decode cX6_write 45 = .ok (.iaload, 1) := dk_46 (dk_at dksX6_write_1 23 rfl rfl)
theorem dX6_write_46 : decode cX6_write 46 = .ok (.iconst 1, 1) := dk_4 (dk_at dksX6_write_2 0 rfl rfl)
theorem dX6_write_47 : decode cX6_write 47 = .ok (.if_icmp .ne 8, 3) := dk_160 0 8 (dk_at dksX6_write_2 1 rfl rfl)
theorem dX6_write_50 : decode cX6_write 50 = .ok (.aload_n 0, 1) := dk_42 (dk_at dksX6_write_2 4 rfl rfl)
theorem dX6_write_51 : decode cX6_write 51 = .ok (.iload_n 1, 1) := dk_27 (dk_at dksX6_write_2 5 rfl rfl)
theorem dX6_write_52 : decode cX6_write 52 = .ok (.invokevirtual 324, 3) := dk_182 1 68 (dk_at dksX6_write_2 6 rfl rfl)
theorem dX6_write_55 : decode cX6_write 55 = .ok (.iinc 1 1, 3) := dk_132 1 1 (dk_at dksX6_write_2 9 rfl rfl)
theorem dX6_write_58 : decode cX6_write 58 = .ok (.goto (-26), 3) := dk_167 255 230 (dk_at dksX6_write_2 12 rfl rfl)
theorem dX6_write_61 : decode cX6_write 61 = .ok (.aload_n 0, 1) := dk_42 (dk_at dksX6_write_2 15 rfl rfl)
theorem dX6_write_62 : decode cX6_write 62 = .ok (.bipush 51, 2) := dk_16 51 (dk_at dksX6_write_2 16 rfl rfl)
theorem dX6_write_64 : decode cX6_write 64 = .ok (.invokevirtual 318, 3) := dk_182 1 62 (dk_at dksX6_write_2 18 rfl rfl)
theorem dX6_write_67 : decode cX6_write 67 = .ok (.ifCond .eq 21, 3) := dk_153 0 21 (dk_at dksX6_write_2 21 rfl rfl)
theorem dX6_write_70 : decode cX6_write 70 = .ok (.aload_n 0, 1) := dk_42 (dk_at dksX6_write_3 0 rfl rfl)
theorem dX6_write_71 : decode cX6_write 71 = .ok (.ldc_w 327, 3) := dk_19 1 71 (dk_at dksX6_write_3 1 rfl rfl)
theorem dX6_write_74 : decode cX6_write 74 = .ok (.invokevirtual 303, 3) := dk_182 1 47 (dk_at dksX6_write_3 4 rfl rfl)
theorem dX6_write_77 : decode cX6_write 77 = .ok (.aload_n 0, 1) := dk_42 (dk_at dksX6_write_3 7 rfl rfl)
theorem dX6_write_78 : decode cX6_write 78 = .ok (.aload_n 0, 1) := dk_42 (dk_at dksX6_write_3 8 rfl rfl)
theorem dX6_write_79 : decode cX6_write 79 = .ok (.getfield 13, 3) := dk_180 0 13 (dk_at dksX6_write_3 9 rfl rfl)
theorem dX6_write_82 : decode cX6_write 82 = .ok (.bipush 51, 2) := dk_16 51 (dk_at dksX6_write_3 12 rfl rfl)
theorem dX6_write_84 : decode cX6_write 84 = .ok (.iaload, 1) := dk_46 (dk_at dksX6_write_3 14 rfl rfl)
theorem dX6_write_85 : decode cX6_write 85 = .ok (.invokevirtual 321, 3) := dk_182 1 65 (dk_at dksX6_write_3 15 rfl rfl)
theorem dX6_write_88 : decode cX6_write 88 = .ok (.aload_n 0, 1) := dk_42 (dk_at dksX6_write_3 18 rfl rfl)
theorem dX6_write_89 : decode cX6_write 89 = .ok (.bipush 52, 2) := dk_16 52 (dk_at dksX6_write_3 19 rfl rfl)
theorem dX6_write_91 : decode cX6_write 91 = .ok (.invokevirtual 318, 3) := dk_182 1 62 (dk_at dksX6_write_3 21 rfl rfl)
theorem dX6_write_94 : decode cX6_write 94 = .ok (.ifCond .eq 21, 3) := dk_153 0 21 (dk_at dksX6_write_4 0 rfl rfl)
theorem dX6_write_97 : decode cX6_write 97 = .ok (.aload_n 0, 1) := dk_42 (dk_at dksX6_write_4 3 rfl rfl)
theorem dX6_write_98 : decode cX6_write 98 = .ok (.ldc_w 329, 3) := dk_19 1 73 (dk_at dksX6_write_4 4 rfl rfl)
theorem dX6_write_101 : decode cX6_write 101 = .ok (.invokevirtual 303, 3) := dk_182 1 47 (dk_at dksX6_write_4 7 rfl rfl)
theorem dX6_write_104 : decode cX6_write 104 = .ok (.aload_n 0, 1) := dk_42 (dk_at dksX6_write_4 10 rfl rfl)
theorem dX6_write_105 : decode cX6_write 105 = .ok (.aload_n 0, 1) := dk_42 (dk_at dksX6_write_4 11 rfl rfl)
theorem dX6_write_106 : decode cX6_write 106 = .ok (.getfield 13, 3) := dk_180 0 13 (dk_at dksX6_write_4 12 rfl rfl)
theorem dX6_write_109 : decode cX6_write 109 = .ok (.bipush 52, 2) := dk_16 52 (dk_at dksX6_write_4 15 rfl rfl)
theorem dX6_write_111 : decode cX6_write 111 = .ok (.iaload, 1) := dk_46 (dk_at dksX6_write_4 17 rfl rfl)
theorem dX6_write_112 : decode cX6_write 112 = .ok (.invokevirtual 321, 3) := dk_182 1 65 (dk_at dksX6_write_4 18 rfl rfl)
theorem dX6_write_115 : decode cX6_write 115 = .ok (.aload_n 0, 1) := dk_42 (dk_at dksX6_write_4 21 rfl rfl)
theorem dX6_write_116 : decode cX6_write 116 = .ok (.bipush 53, 2) := dk_16 53 (dk_at dksX6_write_4 22 rfl rfl)
theorem dX6_write_118 : decode cX6_write 118 = .ok (.invokevirtual 318, 3) := dk_182 1 62 (dk_at dksX6_write_5 0 rfl rfl)
theorem dX6_write_121 : decode cX6_write 121 = .ok (.ifCond .eq 21, 3) := dk_153 0 21 (dk_at dksX6_write_5 3 rfl rfl)
theorem dX6_write_124 : decode cX6_write 124 = .ok (.aload_n 0, 1) := dk_42 (dk_at dksX6_write_5 6 rfl rfl)
theorem dX6_write_125 : decode cX6_write 125 = .ok (.ldc_w 331, 3) := dk_19 1 75 (dk_at dksX6_write_5 7 rfl rfl)
theorem dX6_write_128 : decode cX6_write 128 = .ok (.invokevirtual 303, 3) := dk_182 1 47 (dk_at dksX6_write_5 10 rfl rfl)
theorem dX6_write_131 : decode cX6_write 131 = .ok (.aload_n 0, 1) := dk_42 (dk_at dksX6_write_5 13 rfl rfl)
theorem dX6_write_132 : decode cX6_write 132 = .ok (.aload_n 0, 1) := dk_42 (dk_at dksX6_write_5 14 rfl rfl)
theorem dX6_write_133 : decode cX6_write 133 = .ok (.getfield 13, 3) := dk_180 0 13 (dk_at dksX6_write_5 15 rfl rfl)
theorem dX6_write_136 : decode cX6_write 136 = .ok (.bipush 53, 2) := dk_16 53 (dk_at dksX6_write_5 18 rfl rfl)
theorem dX6_write_138 : decode cX6_write 138 = .ok (.iaload, 1) := dk_46 (dk_at dksX6_write_5 20 rfl rfl)
theorem dX6_write_139 : decode cX6_write 139 = .ok (.invokevirtual 307, 3) := dk_182 1 51 (dk_at dksX6_write_5 21 rfl rfl)
theorem dX6_write_142 : decode cX6_write 142 = .ok (.aload_n 0, 1) := dk_42 (dk_at dksX6_write_6 0 rfl rfl)
theorem dX6_write_143 : decode cX6_write 143 = .ok (.ldc_w 333, 3) := dk_19 1 77 (dk_at dksX6_write_6 1 rfl rfl)
theorem dX6_write_146 : decode cX6_write 146 = .ok (.bipush 54, 2) := dk_16 54 (dk_at dksX6_write_6 4 rfl rfl)
theorem dX6_write_148 : decode cX6_write 148 = .ok (.invokevirtual 335, 3) := dk_182 1 79 (dk_at dksX6_write_6 6 rfl rfl)
theorem dX6_write_151 : decode cX6_write 151 = .ok (.aload_n 0, 1) := dk_42 (dk_at dksX6_write_6 9 rfl rfl)
theorem dX6_write_152 : decode cX6_write 152 = .ok (.ldc_w 339, 3) := dk_19 1 83 (dk_at dksX6_write_6 10 rfl rfl)
theorem dX6_write_155 : decode cX6_write 155 = .ok (.bipush 66, 2) := dk_16 66 (dk_at dksX6_write_6 13 rfl rfl)
theorem dX6_write_157 : decode cX6_write 157 = .ok (.invokevirtual 335, 3) := dk_182 1 79 (dk_at dksX6_write_6 15 rfl rfl)
theorem dX6_write_160 : decode cX6_write 160 = .ok (.aload_n 0, 1) := dk_42 (dk_at dksX6_write_6 18 rfl rfl)
theorem dX6_write_161 : decode cX6_write 161 = .ok (.getfield 292, 3) := dk_180 1 36 (dk_at dksX6_write_6 19 rfl rfl)
theorem dX6_write_164 : decode cX6_write 164 = .ok (.ireturn, 1) := dk_172 (dk_at dksX6_write_6 22 rfl rfl)
abbrev cX6_writes : ByteArray := prog_12_method_110_code
def yX6_writes : MethodName := ⟨RX6, "writes", "(Ljava/lang/String;)V"⟩
def dkwX6_writes_1 : List UInt8 := [167, 255, 236, 177]
abbrev dktX6_writes_1 : List UInt8 := dkwX6_writes_1 ++ []
def dkwX6_writes_0 : List UInt8 := [3, 61, 28, 43, 182, 0, 167, 162, 0, 18, 42, 43, 28, 182, 0, 172, 182, 1, 39, 132, 2, 1]
abbrev dktX6_writes_0 : List UInt8 := dkwX6_writes_0 ++ dktX6_writes_1
theorem dksX6_writes_0 : cX6_writes.data.toList.drop 0 = dktX6_writes_0 := by decide +kernel
theorem dksX6_writes_1 : cX6_writes.data.toList.drop 22 = dktX6_writes_1 := dk_seg dksX6_writes_0 22 rfl rfl
theorem dX6_writes_0 : decode cX6_writes 0 = .ok (.iconst 0, 1) := dk_3 (dk_at dksX6_writes_0 0 rfl rfl)
theorem dX6_writes_1 : decode cX6_writes 1 = .ok (.istore_n 2, 1) := dk_61 (dk_at dksX6_writes_0 1 rfl rfl)
theorem dX6_writes_2 : decode cX6_writes 2 = .ok (.iload_n 2, 1) := dk_28 (dk_at dksX6_writes_0 2 rfl rfl)
theorem dX6_writes_3 : decode cX6_writes 3 = .ok (.aload_n 1, 1) := dk_43 (dk_at dksX6_writes_0 3 rfl rfl)
theorem dX6_writes_4 : decode cX6_writes 4 = .ok (.invokevirtual 167, 3) := dk_182 0 167 (dk_at dksX6_writes_0 4 rfl rfl)
theorem dX6_writes_7 : decode cX6_writes 7 = .ok (.if_icmp .ge 18, 3) := dk_162 0 18 (dk_at dksX6_writes_0 7 rfl rfl)
theorem dX6_writes_10 : decode cX6_writes 10 = .ok (.aload_n 0, 1) := dk_42 (dk_at dksX6_writes_0 10 rfl rfl)
theorem dX6_writes_11 : decode cX6_writes 11 = .ok (.aload_n 1, 1) := dk_43 (dk_at dksX6_writes_0 11 rfl rfl)
theorem dX6_writes_12 : decode cX6_writes 12 = .ok (.iload_n 2, 1) := dk_28 (dk_at dksX6_writes_0 12 rfl rfl)
theorem dX6_writes_13 : decode cX6_writes 13 = .ok (.invokevirtual 172, 3) := dk_182 0 172 (dk_at dksX6_writes_0 13 rfl rfl)
theorem dX6_writes_16 : decode cX6_writes 16 = .ok (.invokevirtual 295, 3) := dk_182 1 39 (dk_at dksX6_writes_0 16 rfl rfl)
theorem dX6_writes_19 : decode cX6_writes 19 = .ok (.iinc 2 1, 3) := dk_132 2 1 (dk_at dksX6_writes_0 19 rfl rfl)
theorem dX6_writes_22 : decode cX6_writes 22 = .ok (.goto (-20), 3) := dk_167 255 236 (dk_at dksX6_writes_1 0 rfl rfl)
theorem dX6_writes_25 : decode cX6_writes 25 = .ok (.return_, 1) := dk_177 (dk_at dksX6_writes_1 3 rfl rfl)
abbrev cX6_writesByte : ByteArray := prog_12_method_109_code
def yX6_writesByte : MethodName := ⟨RX6, "writesByte", "(I)V"⟩
def dkwX6_writesByte_0 : List UInt8 := [42, 180, 0, 41, 42, 180, 1, 36, 27, 145, 84, 42, 89, 180, 1, 36, 4, 96, 181, 1, 36, 177]
abbrev dktX6_writesByte_0 : List UInt8 := dkwX6_writesByte_0 ++ []
theorem dksX6_writesByte_0 : cX6_writesByte.data.toList.drop 0 = dktX6_writesByte_0 := by decide +kernel
theorem dX6_writesByte_0 : decode cX6_writesByte 0 = .ok (.aload_n 0, 1) := dk_42 (dk_at dksX6_writesByte_0 0 rfl rfl)
theorem dX6_writesByte_1 : decode cX6_writesByte 1 = .ok (.getfield 41, 3) := dk_180 0 41 (dk_at dksX6_writesByte_0 1 rfl rfl)
theorem dX6_writesByte_4 : decode cX6_writesByte 4 = .ok (.aload_n 0, 1) := dk_42 (dk_at dksX6_writesByte_0 4 rfl rfl)
theorem dX6_writesByte_5 : decode cX6_writesByte 5 = .ok (.getfield 292, 3) := dk_180 1 36 (dk_at dksX6_writesByte_0 5 rfl rfl)
theorem dX6_writesByte_8 : decode cX6_writesByte 8 = .ok (.iload_n 1, 1) := dk_27 (dk_at dksX6_writesByte_0 8 rfl rfl)
theorem dX6_writesByte_9 : decode cX6_writesByte 9 = .ok (.i2b, 1) := dk_145 (dk_at dksX6_writesByte_0 9 rfl rfl)
theorem dX6_writesByte_10 : decode cX6_writesByte 10 = .ok (.bastore, 1) := dk_84 (dk_at dksX6_writesByte_0 10 rfl rfl)
theorem dX6_writesByte_11 : decode cX6_writesByte 11 = .ok (.aload_n 0, 1) := dk_42 (dk_at dksX6_writesByte_0 11 rfl rfl)
theorem dX6_writesByte_12 : decode cX6_writesByte 12 = .ok (.dup, 1) := dk_89 (dk_at dksX6_writesByte_0 12 rfl rfl)
theorem dX6_writesByte_13 : decode cX6_writesByte 13 = .ok (.getfield 292, 3) := dk_180 1 36 (dk_at dksX6_writesByte_0 13 rfl rfl)
theorem dX6_writesByte_16 : decode cX6_writesByte 16 = .ok (.iconst 1, 1) := dk_4 (dk_at dksX6_writesByte_0 16 rfl rfl)
theorem dX6_writesByte_17 : decode cX6_writesByte 17 = .ok (.iadd, 1) := dk_96 (dk_at dksX6_writesByte_0 17 rfl rfl)
theorem dX6_writesByte_18 : decode cX6_writesByte 18 = .ok (.putfield 292, 3) := dk_181 1 36 (dk_at dksX6_writesByte_0 18 rfl rfl)
theorem dX6_writesByte_21 : decode cX6_writesByte 21 = .ok (.return_, 1) := dk_177 (dk_at dksX6_writesByte_0 21 rfl rfl)
abbrev cX6_writesNumber : ByteArray := prog_12_method_112_code
def yX6_writesNumber : MethodName := ⟨RX6, "writesNumber", "(I)V"⟩
def dkwX6_writesNumber_0 : List UInt8 := [42, 16, 32, 182, 1, 39, 42, 27, 182, 1, 42, 177]
abbrev dktX6_writesNumber_0 : List UInt8 := dkwX6_writesNumber_0 ++ []
theorem dksX6_writesNumber_0 : cX6_writesNumber.data.toList.drop 0 = dktX6_writesNumber_0 := by decide +kernel
theorem dX6_writesNumber_0 : decode cX6_writesNumber 0 = .ok (.aload_n 0, 1) := dk_42 (dk_at dksX6_writesNumber_0 0 rfl rfl)
theorem dX6_writesNumber_1 : decode cX6_writesNumber 1 = .ok (.bipush 32, 2) := dk_16 32 (dk_at dksX6_writesNumber_0 1 rfl rfl)
theorem dX6_writesNumber_3 : decode cX6_writesNumber 3 = .ok (.invokevirtual 295, 3) := dk_182 1 39 (dk_at dksX6_writesNumber_0 3 rfl rfl)
theorem dX6_writesNumber_6 : decode cX6_writesNumber 6 = .ok (.aload_n 0, 1) := dk_42 (dk_at dksX6_writesNumber_0 6 rfl rfl)
theorem dX6_writesNumber_7 : decode cX6_writesNumber 7 = .ok (.iload_n 1, 1) := dk_27 (dk_at dksX6_writesNumber_0 7 rfl rfl)
theorem dX6_writesNumber_8 : decode cX6_writesNumber 8 = .ok (.invokevirtual 298, 3) := dk_182 1 42 (dk_at dksX6_writesNumber_0 8 rfl rfl)
theorem dX6_writesNumber_11 : decode cX6_writesNumber 11 = .ok (.return_, 1) := dk_177 (dk_at dksX6_writesNumber_0 11 rfl rfl)
abbrev cX6_writesDigits : ByteArray := prog_12_method_111_code
def yX6_writesDigits : MethodName := ⟨RX6, "writesDigits", "(I)V"⟩
def dkwX6_writesDigits_1 : List UInt8 := [182, 1, 39, 177]
abbrev dktX6_writesDigits_1 : List UInt8 := dkwX6_writesDigits_1 ++ []
def dkwX6_writesDigits_0 : List UInt8 := [27, 16, 9, 164, 0, 11, 42, 27, 16, 10, 108, 182, 1, 42, 42, 16, 48, 27, 16, 10, 112, 96]
abbrev dktX6_writesDigits_0 : List UInt8 := dkwX6_writesDigits_0 ++ dktX6_writesDigits_1
theorem dksX6_writesDigits_0 : cX6_writesDigits.data.toList.drop 0 = dktX6_writesDigits_0 := by decide +kernel
theorem dksX6_writesDigits_1 : cX6_writesDigits.data.toList.drop 22 = dktX6_writesDigits_1 := dk_seg dksX6_writesDigits_0 22 rfl rfl
theorem dX6_writesDigits_0 : decode cX6_writesDigits 0 = .ok (.iload_n 1, 1) := dk_27 (dk_at dksX6_writesDigits_0 0 rfl rfl)
theorem dX6_writesDigits_1 : decode cX6_writesDigits 1 = .ok (.bipush 9, 2) := dk_16 9 (dk_at dksX6_writesDigits_0 1 rfl rfl)
theorem dX6_writesDigits_3 : decode cX6_writesDigits 3 = .ok (.if_icmp .le 11, 3) := dk_164 0 11 (dk_at dksX6_writesDigits_0 3 rfl rfl)
theorem dX6_writesDigits_6 : decode cX6_writesDigits 6 = .ok (.aload_n 0, 1) := dk_42 (dk_at dksX6_writesDigits_0 6 rfl rfl)
theorem dX6_writesDigits_7 : decode cX6_writesDigits 7 = .ok (.iload_n 1, 1) := dk_27 (dk_at dksX6_writesDigits_0 7 rfl rfl)
theorem dX6_writesDigits_8 : decode cX6_writesDigits 8 = .ok (.bipush 10, 2) := dk_16 10 (dk_at dksX6_writesDigits_0 8 rfl rfl)
theorem dX6_writesDigits_10 : decode cX6_writesDigits 10 = .ok (.idiv, 1) := dk_108 (dk_at dksX6_writesDigits_0 10 rfl rfl)
theorem dX6_writesDigits_11 : decode cX6_writesDigits 11 = .ok (.invokevirtual 298, 3) := dk_182 1 42 (dk_at dksX6_writesDigits_0 11 rfl rfl)
theorem dX6_writesDigits_14 : decode cX6_writesDigits 14 = .ok (.aload_n 0, 1) := dk_42 (dk_at dksX6_writesDigits_0 14 rfl rfl)
theorem dX6_writesDigits_15 : decode cX6_writesDigits 15 = .ok (.bipush 48, 2) := dk_16 48 (dk_at dksX6_writesDigits_0 15 rfl rfl)
theorem dX6_writesDigits_17 : decode cX6_writesDigits 17 = .ok (.iload_n 1, 1) := dk_27 (dk_at dksX6_writesDigits_0 17 rfl rfl)
theorem dX6_writesDigits_18 : decode cX6_writesDigits 18 = .ok (.bipush 10, 2) := dk_16 10 (dk_at dksX6_writesDigits_0 18 rfl rfl)
theorem dX6_writesDigits_20 : decode cX6_writesDigits 20 = .ok (.irem, 1) := dk_112 (dk_at dksX6_writesDigits_0 20 rfl rfl)
theorem dX6_writesDigits_21 : decode cX6_writesDigits 21 = .ok (.iadd, 1) := dk_96 (dk_at dksX6_writesDigits_0 21 rfl rfl)
theorem dX6_writesDigits_22 : decode cX6_writesDigits 22 = .ok (.invokevirtual 295, 3) := dk_182 1 39 (dk_at dksX6_writesDigits_1 0 rfl rfl)
theorem dX6_writesDigits_25 : decode cX6_writesDigits 25 = .ok (.return_, 1) := dk_177 (dk_at dksX6_writesDigits_1 3 rfl rfl)
abbrev cX6_writesInn : ByteArray := prog_12_method_114_code
def yX6_writesInn : MethodName := ⟨RX6, "writesInn", "(I)V"⟩
def dkwX6_writesInn_3 : List UInt8 := [182, 1, 47, 42, 42, 180, 0, 13, 16, 39, 27, 96, 46, 182, 1, 51, 177]
abbrev dktX6_writesInn_3 : List UInt8 := dkwX6_writesInn_3 ++ []
def dkwX6_writesInn_2 : List UInt8 := [19, 1, 58, 182, 1, 47, 42, 180, 0, 13, 16, 39, 27, 96, 46, 158, 0, 23, 42, 19, 1, 60]
abbrev dktX6_writesInn_2 : List UInt8 := dkwX6_writesInn_2 ++ dktX6_writesInn_3
def dkwX6_writesInn_1 : List UInt8 := [182, 1, 51, 42, 42, 180, 0, 13, 16, 27, 27, 96, 46, 4, 160, 0, 9, 19, 1, 56, 167, 0, 6]
abbrev dktX6_writesInn_1 : List UInt8 := dkwX6_writesInn_1 ++ dktX6_writesInn_2
def dkwX6_writesInn_0 : List UInt8 := [42, 19, 1, 54, 182, 1, 47, 42, 27, 182, 1, 51, 42, 42, 180, 0, 13, 16, 15, 27, 96, 46]
abbrev dktX6_writesInn_0 : List UInt8 := dkwX6_writesInn_0 ++ dktX6_writesInn_1
theorem dksX6_writesInn_0 : cX6_writesInn.data.toList.drop 0 = dktX6_writesInn_0 := by decide +kernel
theorem dksX6_writesInn_1 : cX6_writesInn.data.toList.drop 22 = dktX6_writesInn_1 := dk_seg dksX6_writesInn_0 22 rfl rfl
theorem dksX6_writesInn_2 : cX6_writesInn.data.toList.drop 45 = dktX6_writesInn_2 := dk_seg dksX6_writesInn_1 23 rfl rfl
theorem dksX6_writesInn_3 : cX6_writesInn.data.toList.drop 67 = dktX6_writesInn_3 := dk_seg dksX6_writesInn_2 22 rfl rfl
theorem dX6_writesInn_0 : decode cX6_writesInn 0 = .ok (.aload_n 0, 1) := dk_42 (dk_at dksX6_writesInn_0 0 rfl rfl)
theorem dX6_writesInn_1 : decode cX6_writesInn 1 = .ok (.ldc_w 310, 3) := dk_19 1 54 (dk_at dksX6_writesInn_0 1 rfl rfl)
theorem dX6_writesInn_4 : decode cX6_writesInn 4 = .ok (.invokevirtual 303, 3) := dk_182 1 47 (dk_at dksX6_writesInn_0 4 rfl rfl)
theorem dX6_writesInn_7 : decode cX6_writesInn 7 = .ok (.aload_n 0, 1) := dk_42 (dk_at dksX6_writesInn_0 7 rfl rfl)
theorem dX6_writesInn_8 : decode cX6_writesInn 8 = .ok (.iload_n 1, 1) := dk_27 (dk_at dksX6_writesInn_0 8 rfl rfl)
theorem dX6_writesInn_9 : decode cX6_writesInn 9 = .ok (.invokevirtual 307, 3) := dk_182 1 51 (dk_at dksX6_writesInn_0 9 rfl rfl)
theorem dX6_writesInn_12 : decode cX6_writesInn 12 = .ok (.aload_n 0, 1) := dk_42 (dk_at dksX6_writesInn_0 12 rfl rfl)
theorem dX6_writesInn_13 : decode cX6_writesInn 13 = .ok (.aload_n 0, 1) := dk_42 (dk_at dksX6_writesInn_0 13 rfl rfl)
theorem dX6_writesInn_14 : decode cX6_writesInn 14 = .ok (.getfield 13, 3) := dk_180 0 13 (dk_at dksX6_writesInn_0 14 rfl rfl)
theorem dX6_writesInn_17 : decode cX6_writesInn 17 = .ok (.bipush 15, 2) := dk_16 15 (dk_at dksX6_writesInn_0 17 rfl rfl)
theorem dX6_writesInn_19 : decode cX6_writesInn 19 = .ok (.iload_n 1, 1) := dk_27 (dk_at dksX6_writesInn_0 19 rfl rfl)
theorem dX6_writesInn_20 : decode cX6_writesInn 20 = .ok (.iadd, 1) := dk_96 (dk_at dksX6_writesInn_0 20 rfl rfl)
theorem dX6_writesInn_21 : decode cX6_writesInn 21 = .ok (.iaload, 1) := dk_46 (dk_at dksX6_writesInn_0 21 rfl rfl)
theorem dX6_writesInn_22 : decode cX6_writesInn 22 = .ok (.invokevirtual 307, 3) := dk_182 1 51 (dk_at dksX6_writesInn_1 0 rfl rfl)
theorem dX6_writesInn_25 : decode cX6_writesInn 25 = .ok (.aload_n 0, 1) := dk_42 (dk_at dksX6_writesInn_1 3 rfl rfl)
theorem dX6_writesInn_26 : decode cX6_writesInn 26 = .ok (.aload_n 0, 1) := dk_42 (dk_at dksX6_writesInn_1 4 rfl rfl)
theorem dX6_writesInn_27 : decode cX6_writesInn 27 = .ok (.getfield 13, 3) := dk_180 0 13 (dk_at dksX6_writesInn_1 5 rfl rfl)
theorem dX6_writesInn_30 : decode cX6_writesInn 30 = .ok (.bipush 27, 2) := dk_16 27 (dk_at dksX6_writesInn_1 8 rfl rfl)
theorem dX6_writesInn_32 : decode cX6_writesInn 32 = .ok (.iload_n 1, 1) := dk_27 (dk_at dksX6_writesInn_1 10 rfl rfl)
theorem dX6_writesInn_33 : decode cX6_writesInn 33 = .ok (.iadd, 1) := dk_96 (dk_at dksX6_writesInn_1 11 rfl rfl)
theorem dX6_writesInn_34 : decode cX6_writesInn 34 = .ok (.iaload, 1) := dk_46 (dk_at dksX6_writesInn_1 12 rfl rfl)
theorem dX6_writesInn_35 : decode cX6_writesInn 35 = .ok (.iconst 1, 1) := dk_4 (dk_at dksX6_writesInn_1 13 rfl rfl)
theorem dX6_writesInn_36 : decode cX6_writesInn 36 = .ok (.if_icmp .ne 9, 3) := dk_160 0 9 (dk_at dksX6_writesInn_1 14 rfl rfl)
theorem dX6_writesInn_39 : decode cX6_writesInn 39 = .ok (.ldc_w 312, 3) := dk_19 1 56 (dk_at dksX6_writesInn_1 17 rfl rfl)
theorem dX6_writesInn_42 : decode cX6_writesInn 42 = .ok (.goto 6, 3) := dk_167 0 6 (dk_at dksX6_writesInn_1 20 rfl rfl)
theorem dX6_writesInn_45 : decode cX6_writesInn 45 = .ok (.ldc_w 314, 3) := dk_19 1 58 (dk_at dksX6_writesInn_2 0 rfl rfl)
theorem dX6_writesInn_48 : decode cX6_writesInn 48 = .ok (.invokevirtual 303, 3) := dk_182 1 47 (dk_at dksX6_writesInn_2 3 rfl rfl)
theorem dX6_writesInn_51 : decode cX6_writesInn 51 = .ok (.aload_n 0, 1) := dk_42 (dk_at dksX6_writesInn_2 6 rfl rfl)
theorem dX6_writesInn_52 : decode cX6_writesInn 52 = .ok (.getfield 13, 3) := dk_180 0 13 (dk_at dksX6_writesInn_2 7 rfl rfl)
theorem dX6_writesInn_55 : decode cX6_writesInn 55 = .ok (.bipush 39, 2) := dk_16 39 (dk_at dksX6_writesInn_2 10 rfl rfl)
theorem dX6_writesInn_57 : decode cX6_writesInn 57 = .ok (.iload_n 1, 1) := dk_27 (dk_at dksX6_writesInn_2 12 rfl rfl)
theorem dX6_writesInn_58 : decode cX6_writesInn 58 = .ok (.iadd, 1) := dk_96 (dk_at dksX6_writesInn_2 13 rfl rfl)
theorem dX6_writesInn_59 : decode cX6_writesInn 59 = .ok (.iaload, 1) := dk_46 (dk_at dksX6_writesInn_2 14 rfl rfl)
theorem dX6_writesInn_60 : decode cX6_writesInn 60 = .ok (.ifCond .le 23, 3) := dk_158 0 23 (dk_at dksX6_writesInn_2 15 rfl rfl)
theorem dX6_writesInn_63 : decode cX6_writesInn 63 = .ok (.aload_n 0, 1) := dk_42 (dk_at dksX6_writesInn_2 18 rfl rfl)
theorem dX6_writesInn_64 : decode cX6_writesInn 64 = .ok (.ldc_w 316, 3) := dk_19 1 60 (dk_at dksX6_writesInn_2 19 rfl rfl)
theorem dX6_writesInn_67 : decode cX6_writesInn 67 = .ok (.invokevirtual 303, 3) := dk_182 1 47 (dk_at dksX6_writesInn_3 0 rfl rfl)
theorem dX6_writesInn_70 : decode cX6_writesInn 70 = .ok (.aload_n 0, 1) := dk_42 (dk_at dksX6_writesInn_3 3 rfl rfl)
theorem dX6_writesInn_71 : decode cX6_writesInn 71 = .ok (.aload_n 0, 1) := dk_42 (dk_at dksX6_writesInn_3 4 rfl rfl)
theorem dX6_writesInn_72 : decode cX6_writesInn 72 = .ok (.getfield 13, 3) := dk_180 0 13 (dk_at dksX6_writesInn_3 5 rfl rfl)
theorem dX6_writesInn_75 : decode cX6_writesInn 75 = .ok (.bipush 39, 2) := dk_16 39 (dk_at dksX6_writesInn_3 8 rfl rfl)
theorem dX6_writesInn_77 : decode cX6_writesInn 77 = .ok (.iload_n 1, 1) := dk_27 (dk_at dksX6_writesInn_3 10 rfl rfl)
theorem dX6_writesInn_78 : decode cX6_writesInn 78 = .ok (.iadd, 1) := dk_96 (dk_at dksX6_writesInn_3 11 rfl rfl)
theorem dX6_writesInn_79 : decode cX6_writesInn 79 = .ok (.iaload, 1) := dk_46 (dk_at dksX6_writesInn_3 12 rfl rfl)
theorem dX6_writesInn_80 : decode cX6_writesInn 80 = .ok (.invokevirtual 307, 3) := dk_182 1 51 (dk_at dksX6_writesInn_3 13 rfl rfl)
theorem dX6_writesInn_83 : decode cX6_writesInn 83 = .ok (.return_, 1) := dk_177 (dk_at dksX6_writesInn_3 16 rfl rfl)
abbrev cX6_isWrong : ByteArray := prog_12_method_115_code
def yX6_isWrong : MethodName := ⟨RX6, "isWrong", "(I)Z"⟩
def dkwX6_isWrong_1 : List UInt8 := [159, 0, 7, 4, 167, 0, 4, 3, 172]
abbrev dktX6_isWrong_1 : List UInt8 := dkwX6_isWrong_1 ++ []
def dkwX6_isWrong_0 : List UInt8 := [42, 180, 0, 13, 27, 184, 0, 78, 153, 0, 22, 42, 180, 0, 13, 27, 46, 42, 180, 0, 23, 27, 46]
abbrev dktX6_isWrong_0 : List UInt8 := dkwX6_isWrong_0 ++ dktX6_isWrong_1
theorem dksX6_isWrong_0 : cX6_isWrong.data.toList.drop 0 = dktX6_isWrong_0 := by decide +kernel
theorem dksX6_isWrong_1 : cX6_isWrong.data.toList.drop 23 = dktX6_isWrong_1 := dk_seg dksX6_isWrong_0 23 rfl rfl
theorem dX6_isWrong_0 : decode cX6_isWrong 0 = .ok (.aload_n 0, 1) := dk_42 (dk_at dksX6_isWrong_0 0 rfl rfl)
theorem dX6_isWrong_1 : decode cX6_isWrong 1 = .ok (.getfield 13, 3) := dk_180 0 13 (dk_at dksX6_isWrong_0 1 rfl rfl)
theorem dX6_isWrong_4 : decode cX6_isWrong 4 = .ok (.iload_n 1, 1) := dk_27 (dk_at dksX6_isWrong_0 4 rfl rfl)
theorem dX6_isWrong_5 : decode cX6_isWrong 5 = .ok (.invokestatic 78, 3) := dk_184 0 78 (dk_at dksX6_isWrong_0 5 rfl rfl)
theorem dX6_isWrong_8 : decode cX6_isWrong 8 = .ok (.ifCond .eq 22, 3) := dk_153 0 22 (dk_at dksX6_isWrong_0 8 rfl rfl)
theorem dX6_isWrong_11 : decode cX6_isWrong 11 = .ok (.aload_n 0, 1) := dk_42 (dk_at dksX6_isWrong_0 11 rfl rfl)
theorem dX6_isWrong_12 : decode cX6_isWrong 12 = .ok (.getfield 13, 3) := dk_180 0 13 (dk_at dksX6_isWrong_0 12 rfl rfl)
theorem dX6_isWrong_15 : decode cX6_isWrong 15 = .ok (.iload_n 1, 1) := dk_27 (dk_at dksX6_isWrong_0 15 rfl rfl)
theorem dX6_isWrong_16 : decode cX6_isWrong 16 = .ok (.iaload, 1) := dk_46 (dk_at dksX6_isWrong_0 16 rfl rfl)
theorem dX6_isWrong_17 : decode cX6_isWrong 17 = .ok (.aload_n 0, 1) := dk_42 (dk_at dksX6_isWrong_0 17 rfl rfl)
theorem dX6_isWrong_18 : decode cX6_isWrong 18 = .ok (.getfield 23, 3) := dk_180 0 23 (dk_at dksX6_isWrong_0 18 rfl rfl)
theorem dX6_isWrong_21 : decode cX6_isWrong 21 = .ok (.iload_n 1, 1) := dk_27 (dk_at dksX6_isWrong_0 21 rfl rfl)
theorem dX6_isWrong_22 : decode cX6_isWrong 22 = .ok (.iaload, 1) := dk_46 (dk_at dksX6_isWrong_0 22 rfl rfl)
theorem dX6_isWrong_23 : decode cX6_isWrong 23 = .ok (.if_icmp .eq 7, 3) := dk_159 0 7 (dk_at dksX6_isWrong_1 0 rfl rfl)
theorem dX6_isWrong_26 : decode cX6_isWrong 26 = .ok (.iconst 1, 1) := dk_4 (dk_at dksX6_isWrong_1 3 rfl rfl)
theorem dX6_isWrong_27 : decode cX6_isWrong 27 = .ok (.goto 4, 3) := dk_167 0 4 (dk_at dksX6_isWrong_1 4 rfl rfl)
theorem dX6_isWrong_30 : decode cX6_isWrong 30 = .ok (.iconst 0, 1) := dk_3 (dk_at dksX6_isWrong_1 7 rfl rfl)
theorem dX6_isWrong_31 : decode cX6_isWrong 31 = .ok (.ireturn, 1) := dk_172 (dk_at dksX6_isWrong_1 8 rfl rfl)
abbrev cX6_writesPointer : ByteArray := prog_12_method_113_code
def yX6_writesPointer : MethodName := ⟨RX6, "writesPointer", "(I)V"⟩
def dkwX6_writesPointer_0 : List UInt8 := [27, 2, 160, 0, 13, 42, 19, 1, 45, 182, 1, 47, 167, 0, 8, 42, 27, 182, 1, 51, 177]
abbrev dktX6_writesPointer_0 : List UInt8 := dkwX6_writesPointer_0 ++ []
theorem dksX6_writesPointer_0 : cX6_writesPointer.data.toList.drop 0 = dktX6_writesPointer_0 := by decide +kernel
theorem dX6_writesPointer_0 : decode cX6_writesPointer 0 = .ok (.iload_n 1, 1) := dk_27 (dk_at dksX6_writesPointer_0 0 rfl rfl)
theorem dX6_writesPointer_1 : decode cX6_writesPointer 1 = .ok (.iconst (-1), 1) := dk_2 (dk_at dksX6_writesPointer_0 1 rfl rfl)
theorem dX6_writesPointer_2 : decode cX6_writesPointer 2 = .ok (.if_icmp .ne 13, 3) := dk_160 0 13 (dk_at dksX6_writesPointer_0 2 rfl rfl)
theorem dX6_writesPointer_5 : decode cX6_writesPointer 5 = .ok (.aload_n 0, 1) := dk_42 (dk_at dksX6_writesPointer_0 5 rfl rfl)
theorem dX6_writesPointer_6 : decode cX6_writesPointer 6 = .ok (.ldc_w 301, 3) := dk_19 1 45 (dk_at dksX6_writesPointer_0 6 rfl rfl)
theorem dX6_writesPointer_9 : decode cX6_writesPointer 9 = .ok (.invokevirtual 303, 3) := dk_182 1 47 (dk_at dksX6_writesPointer_0 9 rfl rfl)
theorem dX6_writesPointer_12 : decode cX6_writesPointer 12 = .ok (.goto 8, 3) := dk_167 0 8 (dk_at dksX6_writesPointer_0 12 rfl rfl)
theorem dX6_writesPointer_15 : decode cX6_writesPointer 15 = .ok (.aload_n 0, 1) := dk_42 (dk_at dksX6_writesPointer_0 15 rfl rfl)
theorem dX6_writesPointer_16 : decode cX6_writesPointer 16 = .ok (.iload_n 1, 1) := dk_27 (dk_at dksX6_writesPointer_0 16 rfl rfl)
theorem dX6_writesPointer_17 : decode cX6_writesPointer 17 = .ok (.invokevirtual 307, 3) := dk_182 1 51 (dk_at dksX6_writesPointer_0 17 rfl rfl)
theorem dX6_writesPointer_20 : decode cX6_writesPointer 20 = .ok (.return_, 1) := dk_177 (dk_at dksX6_writesPointer_0 20 rfl rfl)
abbrev cX6_writesRow : ByteArray := prog_12_method_116_code
def yX6_writesRow : MethodName := ⟨RX6, "writesRow", "(Ljava/lang/String;I)V"⟩
def dkwX6_writesRow_1 : List UInt8 := [29, 182, 1, 51, 42, 42, 180, 0, 13, 28, 29, 96, 46, 182, 1, 65, 132, 3, 1, 167, 255, 215, 177]
abbrev dktX6_writesRow_1 : List UInt8 := dkwX6_writesRow_1 ++ []
def dkwX6_writesRow_0 : List UInt8 := [3, 62, 29, 16, 12, 162, 0, 41, 42, 28, 29, 96, 182, 1, 62, 153, 0, 25, 42, 43, 182, 1, 47, 42]
abbrev dktX6_writesRow_0 : List UInt8 := dkwX6_writesRow_0 ++ dktX6_writesRow_1
theorem dksX6_writesRow_0 : cX6_writesRow.data.toList.drop 0 = dktX6_writesRow_0 := by decide +kernel
theorem dksX6_writesRow_1 : cX6_writesRow.data.toList.drop 24 = dktX6_writesRow_1 := dk_seg dksX6_writesRow_0 24 rfl rfl
theorem dX6_writesRow_0 : decode cX6_writesRow 0 = .ok (.iconst 0, 1) := dk_3 (dk_at dksX6_writesRow_0 0 rfl rfl)
theorem dX6_writesRow_1 : decode cX6_writesRow 1 = .ok (.istore_n 3, 1) := dk_62 (dk_at dksX6_writesRow_0 1 rfl rfl)
theorem dX6_writesRow_2 : decode cX6_writesRow 2 = .ok (.iload_n 3, 1) := dk_29 (dk_at dksX6_writesRow_0 2 rfl rfl)
theorem dX6_writesRow_3 : decode cX6_writesRow 3 = .ok (.bipush 12, 2) := dk_16 12 (dk_at dksX6_writesRow_0 3 rfl rfl)
theorem dX6_writesRow_5 : decode cX6_writesRow 5 = .ok (.if_icmp .ge 41, 3) := dk_162 0 41 (dk_at dksX6_writesRow_0 5 rfl rfl)
theorem dX6_writesRow_8 : decode cX6_writesRow 8 = .ok (.aload_n 0, 1) := dk_42 (dk_at dksX6_writesRow_0 8 rfl rfl)
theorem dX6_writesRow_9 : decode cX6_writesRow 9 = .ok (.iload_n 2, 1) := dk_28 (dk_at dksX6_writesRow_0 9 rfl rfl)
theorem dX6_writesRow_10 : decode cX6_writesRow 10 = .ok (.iload_n 3, 1) := dk_29 (dk_at dksX6_writesRow_0 10 rfl rfl)
theorem dX6_writesRow_11 : decode cX6_writesRow 11 = .ok (.iadd, 1) := dk_96 (dk_at dksX6_writesRow_0 11 rfl rfl)
theorem dX6_writesRow_12 : decode cX6_writesRow 12 = .ok (.invokevirtual 318, 3) := dk_182 1 62 (dk_at dksX6_writesRow_0 12 rfl rfl)
theorem dX6_writesRow_15 : decode cX6_writesRow 15 = .ok (.ifCond .eq 25, 3) := dk_153 0 25 (dk_at dksX6_writesRow_0 15 rfl rfl)
theorem dX6_writesRow_18 : decode cX6_writesRow 18 = .ok (.aload_n 0, 1) := dk_42 (dk_at dksX6_writesRow_0 18 rfl rfl)
theorem dX6_writesRow_19 : decode cX6_writesRow 19 = .ok (.aload_n 1, 1) := dk_43 (dk_at dksX6_writesRow_0 19 rfl rfl)
theorem dX6_writesRow_20 : decode cX6_writesRow 20 = .ok (.invokevirtual 303, 3) := dk_182 1 47 (dk_at dksX6_writesRow_0 20 rfl rfl)
theorem dX6_writesRow_23 : decode cX6_writesRow 23 = .ok (.aload_n 0, 1) := dk_42 (dk_at dksX6_writesRow_0 23 rfl rfl)
theorem dX6_writesRow_24 : decode cX6_writesRow 24 = .ok (.iload_n 3, 1) := dk_29 (dk_at dksX6_writesRow_1 0 rfl rfl)
theorem dX6_writesRow_25 : decode cX6_writesRow 25 = .ok (.invokevirtual 307, 3) := dk_182 1 51 (dk_at dksX6_writesRow_1 1 rfl rfl)
theorem dX6_writesRow_28 : decode cX6_writesRow 28 = .ok (.aload_n 0, 1) := dk_42 (dk_at dksX6_writesRow_1 4 rfl rfl)
theorem dX6_writesRow_29 : decode cX6_writesRow 29 = .ok (.aload_n 0, 1) := dk_42 (dk_at dksX6_writesRow_1 5 rfl rfl)
theorem dX6_writesRow_30 : decode cX6_writesRow 30 = .ok (.getfield 13, 3) := dk_180 0 13 (dk_at dksX6_writesRow_1 6 rfl rfl)
theorem dX6_writesRow_33 : decode cX6_writesRow 33 = .ok (.iload_n 2, 1) := dk_28 (dk_at dksX6_writesRow_1 9 rfl rfl)
theorem dX6_writesRow_34 : decode cX6_writesRow 34 = .ok (.iload_n 3, 1) := dk_29 (dk_at dksX6_writesRow_1 10 rfl rfl)
theorem dX6_writesRow_35 : decode cX6_writesRow 35 = .ok (.iadd, 1) := dk_96 (dk_at dksX6_writesRow_1 11 rfl rfl)
theorem dX6_writesRow_36 : decode cX6_writesRow 36 = .ok (.iaload, 1) := dk_46 (dk_at dksX6_writesRow_1 12 rfl rfl)
theorem dX6_writesRow_37 : decode cX6_writesRow 37 = .ok (.invokevirtual 321, 3) := dk_182 1 65 (dk_at dksX6_writesRow_1 13 rfl rfl)
theorem dX6_writesRow_40 : decode cX6_writesRow 40 = .ok (.iinc 3 1, 3) := dk_132 3 1 (dk_at dksX6_writesRow_1 16 rfl rfl)
theorem dX6_writesRow_43 : decode cX6_writesRow 43 = .ok (.goto (-41), 3) := dk_167 255 215 (dk_at dksX6_writesRow_1 19 rfl rfl)
theorem dX6_writesRow_46 : decode cX6_writesRow 46 = .ok (.return_, 1) := dk_177 (dk_at dksX6_writesRow_1 22 rfl rfl)
abbrev cX6_written : ByteArray := prog_12_method_118_code
def yX6_written : MethodName := ⟨RX6, "written", "(I)I"⟩
def dkwX6_written_3 : List UInt8 := [167, 255, 220, 28, 172]
abbrev dktX6_written_3 : List UInt8 := dkwX6_written_3 ++ []
def dkwX6_written_2 : List UInt8 := [120, 29, 42, 180, 1, 36, 162, 0, 12, 42, 180, 0, 41, 29, 51, 167, 0, 4, 3, 128, 61, 132, 3, 1]
abbrev dktX6_written_2 : List UInt8 := dkwX6_written_2 ++ dktX6_written_3
def dkwX6_written_1 : List UInt8 := [42, 4, 182, 0, 136, 172, 3, 61, 7, 27, 104, 62, 29, 7, 27, 104, 7, 96, 162, 0, 33, 28, 16, 8]
abbrev dktX6_written_1 : List UInt8 := dkwX6_written_1 ++ dktX6_written_2
def dkwX6_written_0 : List UInt8 := [42, 3, 181, 0, 3, 27, 155, 0, 18, 20, 1, 85, 27, 133, 105, 42, 180, 1, 36, 133, 148, 155, 0, 9]
abbrev dktX6_written_0 : List UInt8 := dkwX6_written_0 ++ dktX6_written_1
theorem dksX6_written_0 : cX6_written.data.toList.drop 0 = dktX6_written_0 := by decide +kernel
theorem dksX6_written_1 : cX6_written.data.toList.drop 24 = dktX6_written_1 := dk_seg dksX6_written_0 24 rfl rfl
theorem dksX6_written_2 : cX6_written.data.toList.drop 48 = dktX6_written_2 := dk_seg dksX6_written_1 24 rfl rfl
theorem dksX6_written_3 : cX6_written.data.toList.drop 72 = dktX6_written_3 := dk_seg dksX6_written_2 24 rfl rfl
theorem dX6_written_0 : decode cX6_written 0 = .ok (.aload_n 0, 1) := dk_42 (dk_at dksX6_written_0 0 rfl rfl)
theorem dX6_written_1 : decode cX6_written 1 = .ok (.iconst 0, 1) := dk_3 (dk_at dksX6_written_0 1 rfl rfl)
theorem dX6_written_2 : decode cX6_written 2 = .ok (.putfield 3, 3) := dk_181 0 3 (dk_at dksX6_written_0 2 rfl rfl)
theorem dX6_written_5 : decode cX6_written 5 = .ok (.iload_n 1, 1) := dk_27 (dk_at dksX6_written_0 5 rfl rfl)
theorem dX6_written_6 : decode cX6_written 6 = .ok (.ifCond .lt 18, 3) := dk_155 0 18 (dk_at dksX6_written_0 6 rfl rfl)
theorem dX6_written_9 : decode cX6_written 9 = .ok (.ldc2_w 341, 3) := dk_20 1 85 (dk_at dksX6_written_0 9 rfl rfl)
theorem dX6_written_12 : decode cX6_written 12 = .ok (.iload_n 1, 1) := dk_27 (dk_at dksX6_written_0 12 rfl rfl)
theorem dX6_written_13 : decode cX6_written 13 = .ok (.i2l, 1) := dk_133 (dk_at dksX6_written_0 13 rfl rfl)
theorem dX6_written_14 : decode cX6_written 14 = .ok (.lmul, 1) := dk_105 (dk_at dksX6_written_0 14 rfl rfl)
theorem dX6_written_15 : decode cX6_written 15 = .ok (.aload_n 0, 1) := dk_42 (dk_at dksX6_written_0 15 rfl rfl)
theorem dX6_written_16 : decode cX6_written 16 = .ok (.getfield 292, 3) := dk_180 1 36 (dk_at dksX6_written_0 16 rfl rfl)
theorem dX6_written_19 : decode cX6_written 19 = .ok (.i2l, 1) := dk_133 (dk_at dksX6_written_0 19 rfl rfl)
theorem dX6_written_20 : decode cX6_written 20 = .ok (.lcmp, 1) := dk_148 (dk_at dksX6_written_0 20 rfl rfl)
theorem dX6_written_21 : decode cX6_written 21 = .ok (.ifCond .lt 9, 3) := dk_155 0 9 (dk_at dksX6_written_0 21 rfl rfl)
theorem dX6_written_24 : decode cX6_written 24 = .ok (.aload_n 0, 1) := dk_42 (dk_at dksX6_written_1 0 rfl rfl)
theorem dX6_written_25 : decode cX6_written 25 = .ok (.iconst 1, 1) := dk_4 (dk_at dksX6_written_1 1 rfl rfl)
theorem dX6_written_26 : decode cX6_written 26 = .ok (.invokevirtual 136, 3) := dk_182 0 136 (dk_at dksX6_written_1 2 rfl rfl)
theorem dX6_written_29 : decode cX6_written 29 = .ok (.ireturn, 1) := dk_172 (dk_at dksX6_written_1 5 rfl rfl)
theorem dX6_written_30 : decode cX6_written 30 = .ok (.iconst 0, 1) := dk_3 (dk_at dksX6_written_1 6 rfl rfl)
theorem dX6_written_31 : decode cX6_written 31 = .ok (.istore_n 2, 1) := dk_61 (dk_at dksX6_written_1 7 rfl rfl)
theorem dX6_written_32 : decode cX6_written 32 = .ok (.iconst 4, 1) := dk_7 (dk_at dksX6_written_1 8 rfl rfl)
theorem dX6_written_33 : decode cX6_written 33 = .ok (.iload_n 1, 1) := dk_27 (dk_at dksX6_written_1 9 rfl rfl)
theorem dX6_written_34 : decode cX6_written 34 = .ok (.imul, 1) := dk_104 (dk_at dksX6_written_1 10 rfl rfl)
theorem dX6_written_35 : decode cX6_written 35 = .ok (.istore_n 3, 1) := dk_62 (dk_at dksX6_written_1 11 rfl rfl)
theorem dX6_written_36 : decode cX6_written 36 = .ok (.iload_n 3, 1) := dk_29 (dk_at dksX6_written_1 12 rfl rfl)
theorem dX6_written_37 : decode cX6_written 37 = .ok (.iconst 4, 1) := dk_7 (dk_at dksX6_written_1 13 rfl rfl)
theorem dX6_written_38 : decode cX6_written 38 = .ok (.iload_n 1, 1) := dk_27 (dk_at dksX6_written_1 14 rfl rfl)
theorem dX6_written_39 : decode cX6_written 39 = .ok (.imul, 1) := dk_104 (dk_at dksX6_written_1 15 rfl rfl)
theorem dX6_written_40 : decode cX6_written 40 = .ok (.iconst 4, 1) := dk_7 (dk_at dksX6_written_1 16 rfl rfl)
theorem dX6_written_41 : decode cX6_written 41 = .ok (.iadd, 1) := dk_96 (dk_at dksX6_written_1 17 rfl rfl)
theorem dX6_written_42 : decode cX6_written 42 = .ok (.if_icmp .ge 33, 3) := dk_162 0 33 (dk_at dksX6_written_1 18 rfl rfl)
theorem dX6_written_45 : decode cX6_written 45 = .ok (.iload_n 2, 1) := dk_28 (dk_at dksX6_written_1 21 rfl rfl)
theorem dX6_written_46 : decode cX6_written 46 = .ok (.bipush 8, 2) := dk_16 8 (dk_at dksX6_written_1 22 rfl rfl)
theorem dX6_written_48 : decode cX6_written 48 = .ok (.ishl, 1) := dk_120 (dk_at dksX6_written_2 0 rfl rfl)
theorem dX6_written_49 : decode cX6_written 49 = .ok (.iload_n 3, 1) := dk_29 (dk_at dksX6_written_2 1 rfl rfl)
theorem dX6_written_50 : decode cX6_written 50 = .ok (.aload_n 0, 1) := dk_42 (dk_at dksX6_written_2 2 rfl rfl)
theorem dX6_written_51 : decode cX6_written 51 = .ok (.getfield 292, 3) := dk_180 1 36 (dk_at dksX6_written_2 3 rfl rfl)
theorem dX6_written_54 : decode cX6_written 54 = .ok (.if_icmp .ge 12, 3) := dk_162 0 12 (dk_at dksX6_written_2 6 rfl rfl)
theorem dX6_written_57 : decode cX6_written 57 = .ok (.aload_n 0, 1) := dk_42 (dk_at dksX6_written_2 9 rfl rfl)
theorem dX6_written_58 : decode cX6_written 58 = .ok (.getfield 41, 3) := dk_180 0 41 (dk_at dksX6_written_2 10 rfl rfl)
theorem dX6_written_61 : decode cX6_written 61 = .ok (.iload_n 3, 1) := dk_29 (dk_at dksX6_written_2 13 rfl rfl)
theorem dX6_written_62 : decode cX6_written 62 = .ok (.baload, 1) := dk_51 (dk_at dksX6_written_2 14 rfl rfl)
theorem dX6_written_63 : decode cX6_written 63 = .ok (.goto 4, 3) := dk_167 0 4 (dk_at dksX6_written_2 15 rfl rfl)
theorem dX6_written_66 : decode cX6_written 66 = .ok (.iconst 0, 1) := dk_3 (dk_at dksX6_written_2 18 rfl rfl)
theorem dX6_written_67 : decode cX6_written 67 = .ok (.ior, 1) := dk_128 (dk_at dksX6_written_2 19 rfl rfl)
theorem dX6_written_68 : decode cX6_written 68 = .ok (.istore_n 2, 1) := dk_61 (dk_at dksX6_written_2 20 rfl rfl)
theorem dX6_written_69 : decode cX6_written 69 = .ok (.iinc 3 1, 3) := dk_132 3 1 (dk_at dksX6_written_2 21 rfl rfl)
theorem dX6_written_72 : decode cX6_written 72 = .ok (.goto (-36), 3) := dk_167 255 220 (dk_at dksX6_written_3 0 rfl rfl)
theorem dX6_written_75 : decode cX6_written 75 = .ok (.iload_n 2, 1) := dk_28 (dk_at dksX6_written_3 3 rfl rfl)
theorem dX6_written_76 : decode cX6_written 76 = .ok (.ireturn, 1) := dk_172 (dk_at dksX6_written_3 4 rfl rfl)
theorem q98 : (Jvm.Cond.initialized "InnRoadModel") ∈ lw_all := lw_g (lw_at lw_m1 29 rfl) rfl
theorem q718 : (Jvm.Cond.selects "InnRoadModel" ({ cls := "java/lang/Object", name := "getClass", desc := "()Ljava/lang/Class;" } : Jvm.MethodName) ({ cls := "java/lang/Object", name := "getClass", desc := "()Ljava/lang/Class;" } : Jvm.MethodName)) ∈ lw_all := lw_g (lw_at lw_m3 169 rfl) rfl
theorem q995 : (Jvm.Cond.selects "InnRoadModel" ({ cls := "java/lang/Object", name := "hashCode", desc := "()I" } : Jvm.MethodName) ({ cls := "java/lang/Object", name := "hashCode", desc := "()I" } : Jvm.MethodName)) ∈ lw_all := lw_g (lw_at lw_m4 206 rfl) rfl
theorem q1085 : (Jvm.Cond.selects "InnRoadModel" ({ cls := "java/lang/Object", name := "equals", desc := "(Ljava/lang/Object;)Z" } : Jvm.MethodName) ({ cls := "java/lang/Object", name := "equals", desc := "(Ljava/lang/Object;)Z" } : Jvm.MethodName)) ∈ lw_all := lw_g (lw_at lw_m5 56 rfl) rfl
theorem q2315 : (Jvm.Cond.instanceMethod ({ cls := "InnRoadModel", name := "thrown", desc := "()I" } : Jvm.MethodName)) ∈ lw_all := lw_g (lw_at lw_m10 86 rfl) rfl
theorem q2316 : (Jvm.Cond.selects "InnRoadModel" ({ cls := "InnRoadModel", name := "thrown", desc := "()I" } : Jvm.MethodName) ({ cls := "InnRoadModel", name := "thrown", desc := "()I" } : Jvm.MethodName)) ∈ lw_all := lw_g (lw_at lw_m10 87 rfl) rfl
theorem q2317 : (Jvm.Cond.code ({ cls := "InnRoadModel", name := "thrown", desc := "()I" } : Jvm.MethodName) prog_12_method_1_code (1 : Nat) (Option.some Jvm.ClassFile.FieldType.int)) ∈ lw_all := lw_g (lw_at lw_m10 88 rfl) rfl
theorem q2319 : (Jvm.Cond.instantiable "InnRoadModel" (25 : Nat)) ∈ lw_all := lw_g (lw_at lw_m10 90 rfl) rfl
theorem q2321 : (Jvm.Cond.instanceMethod ({ cls := "InnRoadModel", name := "<init>", desc := "()V" } : Jvm.MethodName)) ∈ lw_all := lw_g (lw_at lw_m10 92 rfl) rfl
theorem q2322 : (Jvm.Cond.code ({ cls := "InnRoadModel", name := "<init>", desc := "()V" } : Jvm.MethodName) prog_12_method_4_code (1 : Nat) (Option.none : Option Jvm.ClassFile.FieldType)) ∈ lw_all := lw_g (lw_at lw_m10 93 rfl) rfl
theorem q2323 : (Jvm.Cond.methodLink "InnRoadModel" (7 : Nat) ({ cls := "java/lang/Object", name := "<init>", desc := "()V" } : Jvm.MethodName)) ∈ lw_all := lw_g (lw_at lw_m10 94 rfl) rfl
theorem q2324 : (Jvm.Cond.classLink "InnRoadModel" (29 : Nat) "[[I") ∈ lw_all := lw_g (lw_at lw_m10 95 rfl) rfl
theorem q2326 : (Jvm.Cond.methodLink "InnRoadModel" (44 : Nat) ({ cls := "InnRoadModel", name := "builds", desc := "([III)V" } : Jvm.MethodName)) ∈ lw_all := lw_g (lw_at lw_m10 97 rfl) rfl
theorem q2327 : (Jvm.Cond.static ({ cls := "InnRoadModel", name := "builds", desc := "([III)V" } : Jvm.MethodName)) ∈ lw_all := lw_g (lw_at lw_m10 98 rfl) rfl
theorem q2328 : (Jvm.Cond.code ({ cls := "InnRoadModel", name := "builds", desc := "([III)V" } : Jvm.MethodName) prog_12_method_5_code (3 : Nat) (Option.none : Option Jvm.ClassFile.FieldType)) ∈ lw_all := lw_g (lw_at lw_m10 99 rfl) rfl
theorem q2329 : (Jvm.Cond.methodLink "InnRoadModel" (48 : Nat) ({ cls := "InnRoadModel", name := "rebuilds", desc := "([I)V" } : Jvm.MethodName)) ∈ lw_all := lw_g (lw_at lw_m10 100 rfl) rfl
theorem q2330 : (Jvm.Cond.static ({ cls := "InnRoadModel", name := "rebuilds", desc := "([I)V" } : Jvm.MethodName)) ∈ lw_all := lw_g (lw_at lw_m10 101 rfl) rfl
theorem q2331 : (Jvm.Cond.code ({ cls := "InnRoadModel", name := "rebuilds", desc := "([I)V" } : Jvm.MethodName) prog_12_method_13_code (2 : Nat) (Option.none : Option Jvm.ClassFile.FieldType)) ∈ lw_all := lw_g (lw_at lw_m10 102 rfl) rfl
theorem q2332 : (Jvm.Cond.methodLink "InnRoadModel" (67 : Nat) ({ cls := "InnRoadModel", name := "innBehind", desc := "([II)I" } : Jvm.MethodName)) ∈ lw_all := lw_g (lw_at lw_m10 103 rfl) rfl
theorem q2333 : (Jvm.Cond.static ({ cls := "InnRoadModel", name := "innBehind", desc := "([II)I" } : Jvm.MethodName)) ∈ lw_all := lw_g (lw_at lw_m10 104 rfl) rfl
theorem q2334 : (Jvm.Cond.code ({ cls := "InnRoadModel", name := "innBehind", desc := "([II)I" } : Jvm.MethodName) prog_12_method_12_code (5 : Nat) (Option.some Jvm.ClassFile.FieldType.int)) ∈ lw_all := lw_g (lw_at lw_m10 105 rfl) rfl
theorem q2335 : (Jvm.Cond.methodLink "InnRoadModel" (71 : Nat) ({ cls := "InnRoadModel", name := "innsOf", desc := "([I)I" } : Jvm.MethodName)) ∈ lw_all := lw_g (lw_at lw_m10 106 rfl) rfl
theorem q2336 : (Jvm.Cond.static ({ cls := "InnRoadModel", name := "innsOf", desc := "([I)I" } : Jvm.MethodName)) ∈ lw_all := lw_g (lw_at lw_m10 107 rfl) rfl
theorem q2337 : (Jvm.Cond.code ({ cls := "InnRoadModel", name := "innsOf", desc := "([I)I" } : Jvm.MethodName) prog_12_method_10_code (3 : Nat) (Option.some Jvm.ClassFile.FieldType.int)) ∈ lw_all := lw_g (lw_at lw_m10 108 rfl) rfl
theorem q2338 : (Jvm.Cond.fieldLink "InnRoadModel" (3 : Nat) "InnRoadModel" "thrown" "I") ∈ lw_all := lw_g (lw_at lw_m10 109 rfl) rfl
theorem q2339 : (Jvm.Cond.fieldLink "InnRoadModel" (13 : Nat) "InnRoadModel" "now" "[I") ∈ lw_all := lw_g (lw_at lw_m10 110 rfl) rfl
theorem q2340 : (Jvm.Cond.fieldLink "InnRoadModel" (17 : Nat) "InnRoadModel" "kept" "[I") ∈ lw_all := lw_g (lw_at lw_m10 111 rfl) rfl
theorem q2341 : (Jvm.Cond.fieldLink "InnRoadModel" (20 : Nat) "InnRoadModel" "read" "[I") ∈ lw_all := lw_g (lw_at lw_m10 112 rfl) rfl
theorem q2342 : (Jvm.Cond.fieldLink "InnRoadModel" (23 : Nat) "InnRoadModel" "due" "[I") ∈ lw_all := lw_g (lw_at lw_m10 113 rfl) rfl
theorem q2343 : (Jvm.Cond.fieldLink "InnRoadModel" (26 : Nat) "InnRoadModel" "trial" "[I") ∈ lw_all := lw_g (lw_at lw_m10 114 rfl) rfl
theorem q2344 : (Jvm.Cond.fieldLink "InnRoadModel" (31 : Nat) "InnRoadModel" "past" "[[I") ∈ lw_all := lw_g (lw_at lw_m10 115 rfl) rfl
theorem q2345 : (Jvm.Cond.fieldLink "InnRoadModel" (52 : Nat) "InnRoadModel" "changes" "I") ∈ lw_all := lw_g (lw_at lw_m10 116 rfl) rfl
theorem q2346 : (Jvm.Cond.fieldLink "InnRoadModel" (270 : Nat) "InnRoadModel" "isKept" "Z") ∈ lw_all := lw_g (lw_at lw_m10 117 rfl) rfl
theorem q2347 : (Jvm.Cond.fieldLink "InnRoadModel" (34 : Nat) "InnRoadModel" "chain" "[I") ∈ lw_all := lw_g (lw_at lw_m10 118 rfl) rfl
theorem q2348 : (Jvm.Cond.fieldLink "InnRoadModel" (82 : Nat) "InnRoadModel" "chainMany" "I") ∈ lw_all := lw_g (lw_at lw_m10 119 rfl) rfl
theorem q2349 : (Jvm.Cond.fieldLink "InnRoadModel" (92 : Nat) "InnRoadModel" "chainEnd" "I") ∈ lw_all := lw_g (lw_at lw_m10 120 rfl) rfl
theorem q2350 : (Jvm.Cond.fieldLink "InnRoadModel" (114 : Nat) "InnRoadModel" "stagesMany" "I") ∈ lw_all := lw_g (lw_at lw_m10 121 rfl) rfl
theorem q2351 : (Jvm.Cond.fieldLink "InnRoadModel" (117 : Nat) "InnRoadModel" "rideMiles" "I") ∈ lw_all := lw_g (lw_at lw_m10 122 rfl) rfl
theorem q2352 : (Jvm.Cond.fieldLink "InnRoadModel" (120 : Nat) "InnRoadModel" "rideSkips" "I") ∈ lw_all := lw_g (lw_at lw_m10 123 rfl) rfl
theorem q2353 : (Jvm.Cond.fieldLink "InnRoadModel" (123 : Nat) "InnRoadModel" "rideEnd" "I") ∈ lw_all := lw_g (lw_at lw_m10 124 rfl) rfl
theorem q2354 : (Jvm.Cond.fieldLink "InnRoadModel" (37 : Nat) "InnRoadModel" "buffer" "[B") ∈ lw_all := lw_g (lw_at lw_m10 125 rfl) rfl
theorem q2355 : (Jvm.Cond.fieldLink "InnRoadModel" (41 : Nat) "InnRoadModel" "text" "[B") ∈ lw_all := lw_g (lw_at lw_m10 126 rfl) rfl
theorem q2356 : (Jvm.Cond.fieldLink "InnRoadModel" (130 : Nat) "InnRoadModel" "length" "I") ∈ lw_all := lw_g (lw_at lw_m10 127 rfl) rfl
theorem q2357 : (Jvm.Cond.fieldLink "InnRoadModel" (292 : Nat) "InnRoadModel" "textLength" "I") ∈ lw_all := lw_g (lw_at lw_m10 128 rfl) rfl
theorem q2358 : (Jvm.Cond.fieldLink "InnRoadModel" (151 : Nat) "InnRoadModel" "at" "I") ∈ lw_all := lw_g (lw_at lw_m10 129 rfl) rfl
theorem q2359 : (Jvm.Cond.fieldLink "InnRoadModel" (154 : Nat) "InnRoadModel" "start" "I") ∈ lw_all := lw_g (lw_at lw_m10 130 rfl) rfl
theorem q2360 : (Jvm.Cond.fieldLink "InnRoadModel" (157 : Nat) "InnRoadModel" "token" "I") ∈ lw_all := lw_g (lw_at lw_m10 131 rfl) rfl
theorem q2361 : (Jvm.Cond.fieldLink "InnRoadModel" (183 : Nat) "InnRoadModel" "number" "I") ∈ lw_all := lw_g (lw_at lw_m10 132 rfl) rfl
theorem q2362 : (Jvm.Cond.fieldLink "InnRoadModel" (199 : Nat) "InnRoadModel" "lastIndex" "I") ∈ lw_all := lw_g (lw_at lw_m10 133 rfl) rfl
theorem q2363 : (Jvm.Cond.lays "InnRoadModel" "InnRoadModel" "thrown" "I") ∈ lw_all := lw_g (lw_at lw_m10 134 rfl) rfl
theorem q2364 : (Jvm.Cond.soleField "InnRoadModel" "thrown") ∈ lw_all := lw_g (lw_at lw_m10 135 rfl) rfl
theorem q2365 : (Jvm.Cond.laysFinal "InnRoadModel" "InnRoadModel" "now" "[I") ∈ lw_all := lw_g (lw_at lw_m10 136 rfl) rfl
theorem q2366 : (Jvm.Cond.soleField "InnRoadModel" "now") ∈ lw_all := lw_g (lw_at lw_m10 137 rfl) rfl
theorem q2367 : (Jvm.Cond.laysFinal "InnRoadModel" "InnRoadModel" "kept" "[I") ∈ lw_all := lw_g (lw_at lw_m10 138 rfl) rfl
theorem q2368 : (Jvm.Cond.soleField "InnRoadModel" "kept") ∈ lw_all := lw_g (lw_at lw_m10 139 rfl) rfl
theorem q2369 : (Jvm.Cond.laysFinal "InnRoadModel" "InnRoadModel" "read" "[I") ∈ lw_all := lw_g (lw_at lw_m10 140 rfl) rfl
theorem q2370 : (Jvm.Cond.soleField "InnRoadModel" "read") ∈ lw_all := lw_g (lw_at lw_m10 141 rfl) rfl
theorem q2371 : (Jvm.Cond.laysFinal "InnRoadModel" "InnRoadModel" "due" "[I") ∈ lw_all := lw_g (lw_at lw_m10 142 rfl) rfl
theorem q2372 : (Jvm.Cond.soleField "InnRoadModel" "due") ∈ lw_all := lw_g (lw_at lw_m10 143 rfl) rfl
theorem q2373 : (Jvm.Cond.laysFinal "InnRoadModel" "InnRoadModel" "trial" "[I") ∈ lw_all := lw_g (lw_at lw_m10 144 rfl) rfl
theorem q2374 : (Jvm.Cond.soleField "InnRoadModel" "trial") ∈ lw_all := lw_g (lw_at lw_m10 145 rfl) rfl
theorem q2375 : (Jvm.Cond.laysFinal "InnRoadModel" "InnRoadModel" "past" "[[I") ∈ lw_all := lw_g (lw_at lw_m10 146 rfl) rfl
theorem q2376 : (Jvm.Cond.soleField "InnRoadModel" "past") ∈ lw_all := lw_g (lw_at lw_m10 147 rfl) rfl
theorem q2377 : (Jvm.Cond.lays "InnRoadModel" "InnRoadModel" "changes" "I") ∈ lw_all := lw_g (lw_at lw_m10 148 rfl) rfl
theorem q2378 : (Jvm.Cond.soleField "InnRoadModel" "changes") ∈ lw_all := lw_g (lw_at lw_m10 149 rfl) rfl
theorem q2379 : (Jvm.Cond.lays "InnRoadModel" "InnRoadModel" "isKept" "Z") ∈ lw_all := lw_g (lw_at lw_m10 150 rfl) rfl
theorem q2380 : (Jvm.Cond.soleField "InnRoadModel" "isKept") ∈ lw_all := lw_g (lw_at lw_m10 151 rfl) rfl
theorem q2381 : (Jvm.Cond.laysFinal "InnRoadModel" "InnRoadModel" "chain" "[I") ∈ lw_all := lw_g (lw_at lw_m10 152 rfl) rfl
theorem q2382 : (Jvm.Cond.soleField "InnRoadModel" "chain") ∈ lw_all := lw_g (lw_at lw_m10 153 rfl) rfl
theorem q2383 : (Jvm.Cond.lays "InnRoadModel" "InnRoadModel" "chainMany" "I") ∈ lw_all := lw_g (lw_at lw_m10 154 rfl) rfl
theorem q2384 : (Jvm.Cond.soleField "InnRoadModel" "chainMany") ∈ lw_all := lw_g (lw_at lw_m10 155 rfl) rfl
theorem q2385 : (Jvm.Cond.lays "InnRoadModel" "InnRoadModel" "chainEnd" "I") ∈ lw_all := lw_g (lw_at lw_m10 156 rfl) rfl
theorem q2386 : (Jvm.Cond.soleField "InnRoadModel" "chainEnd") ∈ lw_all := lw_g (lw_at lw_m10 157 rfl) rfl
theorem q2387 : (Jvm.Cond.lays "InnRoadModel" "InnRoadModel" "stagesMany" "I") ∈ lw_all := lw_g (lw_at lw_m10 158 rfl) rfl
theorem q2388 : (Jvm.Cond.soleField "InnRoadModel" "stagesMany") ∈ lw_all := lw_g (lw_at lw_m10 159 rfl) rfl
theorem q2389 : (Jvm.Cond.lays "InnRoadModel" "InnRoadModel" "rideMiles" "I") ∈ lw_all := lw_g (lw_at lw_m10 160 rfl) rfl
theorem q2390 : (Jvm.Cond.soleField "InnRoadModel" "rideMiles") ∈ lw_all := lw_g (lw_at lw_m10 161 rfl) rfl
theorem q2391 : (Jvm.Cond.lays "InnRoadModel" "InnRoadModel" "rideSkips" "I") ∈ lw_all := lw_g (lw_at lw_m10 162 rfl) rfl
theorem q2392 : (Jvm.Cond.soleField "InnRoadModel" "rideSkips") ∈ lw_all := lw_g (lw_at lw_m10 163 rfl) rfl
theorem q2393 : (Jvm.Cond.lays "InnRoadModel" "InnRoadModel" "rideEnd" "I") ∈ lw_all := lw_g (lw_at lw_m10 164 rfl) rfl
theorem q2394 : (Jvm.Cond.soleField "InnRoadModel" "rideEnd") ∈ lw_all := lw_g (lw_at lw_m10 165 rfl) rfl
theorem q2395 : (Jvm.Cond.laysFinal "InnRoadModel" "InnRoadModel" "buffer" "[B") ∈ lw_all := lw_g (lw_at lw_m10 166 rfl) rfl
theorem q2396 : (Jvm.Cond.soleField "InnRoadModel" "buffer") ∈ lw_all := lw_g (lw_at lw_m10 167 rfl) rfl
theorem q2397 : (Jvm.Cond.laysFinal "InnRoadModel" "InnRoadModel" "text" "[B") ∈ lw_all := lw_g (lw_at lw_m10 168 rfl) rfl
theorem q2398 : (Jvm.Cond.soleField "InnRoadModel" "text") ∈ lw_all := lw_g (lw_at lw_m10 169 rfl) rfl
theorem q2399 : (Jvm.Cond.lays "InnRoadModel" "InnRoadModel" "length" "I") ∈ lw_all := lw_g (lw_at lw_m10 170 rfl) rfl
theorem q2400 : (Jvm.Cond.soleField "InnRoadModel" "length") ∈ lw_all := lw_g (lw_at lw_m10 171 rfl) rfl
theorem q2401 : (Jvm.Cond.lays "InnRoadModel" "InnRoadModel" "textLength" "I") ∈ lw_all := lw_g (lw_at lw_m10 172 rfl) rfl
theorem q2402 : (Jvm.Cond.soleField "InnRoadModel" "textLength") ∈ lw_all := lw_g (lw_at lw_m10 173 rfl) rfl
theorem q2403 : (Jvm.Cond.lays "InnRoadModel" "InnRoadModel" "at" "I") ∈ lw_all := lw_g (lw_at lw_m10 174 rfl) rfl
theorem q2404 : (Jvm.Cond.soleField "InnRoadModel" "at") ∈ lw_all := lw_g (lw_at lw_m10 175 rfl) rfl
theorem q2405 : (Jvm.Cond.lays "InnRoadModel" "InnRoadModel" "start" "I") ∈ lw_all := lw_g (lw_at lw_m10 176 rfl) rfl
theorem q2406 : (Jvm.Cond.soleField "InnRoadModel" "start") ∈ lw_all := lw_g (lw_at lw_m10 177 rfl) rfl
theorem q2407 : (Jvm.Cond.lays "InnRoadModel" "InnRoadModel" "token" "I") ∈ lw_all := lw_g (lw_at lw_m10 178 rfl) rfl
theorem q2408 : (Jvm.Cond.soleField "InnRoadModel" "token") ∈ lw_all := lw_g (lw_at lw_m10 179 rfl) rfl
theorem q2409 : (Jvm.Cond.lays "InnRoadModel" "InnRoadModel" "number" "I") ∈ lw_all := lw_g (lw_at lw_m10 180 rfl) rfl
theorem q2410 : (Jvm.Cond.soleField "InnRoadModel" "number") ∈ lw_all := lw_g (lw_at lw_m10 181 rfl) rfl
theorem q2411 : (Jvm.Cond.lays "InnRoadModel" "InnRoadModel" "lastIndex" "I") ∈ lw_all := lw_g (lw_at lw_m10 182 rfl) rfl
theorem q2412 : (Jvm.Cond.soleField "InnRoadModel" "lastIndex") ∈ lw_all := lw_g (lw_at lw_m10 183 rfl) rfl
theorem q2413 : (Jvm.Cond.superclass "InnRoadModel" "java/lang/Object") ∈ lw_all := lw_g (lw_at lw_m10 184 rfl) rfl
theorem q2415 : (Jvm.Cond.instanceMethod ({ cls := "InnRoadModel", name := "append", desc := "(IIIII)I" } : Jvm.MethodName)) ∈ lw_all := lw_g (lw_at lw_m10 186 rfl) rfl
theorem q2416 : (Jvm.Cond.selects "InnRoadModel" ({ cls := "InnRoadModel", name := "append", desc := "(IIIII)I" } : Jvm.MethodName) ({ cls := "InnRoadModel", name := "append", desc := "(IIIII)I" } : Jvm.MethodName)) ∈ lw_all := lw_g (lw_at lw_m10 187 rfl) rfl
theorem q2417 : (Jvm.Cond.code ({ cls := "InnRoadModel", name := "append", desc := "(IIIII)I" } : Jvm.MethodName) prog_12_method_27_code (6 : Nat) (Option.some Jvm.ClassFile.FieldType.int)) ∈ lw_all := lw_g (lw_at lw_m10 188 rfl) rfl
theorem q2418 : (Jvm.Cond.methodLink "InnRoadModel" (133 : Nat) ({ cls := "InnRoadModel", name := "bytesOf", desc := "(I)I" } : Jvm.MethodName)) ∈ lw_all := lw_g (lw_at lw_m10 189 rfl) rfl
theorem q2419 : (Jvm.Cond.static ({ cls := "InnRoadModel", name := "bytesOf", desc := "(I)I" } : Jvm.MethodName)) ∈ lw_all := lw_g (lw_at lw_m10 190 rfl) rfl
theorem q2420 : (Jvm.Cond.code ({ cls := "InnRoadModel", name := "bytesOf", desc := "(I)I" } : Jvm.MethodName) prog_12_method_25_code (3 : Nat) (Option.some Jvm.ClassFile.FieldType.int)) ∈ lw_all := lw_g (lw_at lw_m10 191 rfl) rfl
theorem q2421 : (Jvm.Cond.methodLink "InnRoadModel" (136 : Nat) ({ cls := "InnRoadModel", name := "fails", desc := "(I)I" } : Jvm.MethodName)) ∈ lw_all := lw_g (lw_at lw_m10 192 rfl) rfl
theorem q2422 : (Jvm.Cond.privateMethod ({ cls := "InnRoadModel", name := "fails", desc := "(I)I" } : Jvm.MethodName)) ∈ lw_tbl := lw_at lw_m10 193 rfl
theorem q2423 : (Jvm.Cond.instanceMethod ({ cls := "InnRoadModel", name := "fails", desc := "(I)I" } : Jvm.MethodName)) ∈ lw_all := lw_g (lw_at lw_m10 194 rfl) rfl
theorem q2424 : (Jvm.Cond.code ({ cls := "InnRoadModel", name := "fails", desc := "(I)I" } : Jvm.MethodName) prog_12_method_2_code (2 : Nat) (Option.some Jvm.ClassFile.FieldType.int)) ∈ lw_all := lw_g (lw_at lw_m10 195 rfl) rfl
theorem q2425 : (Jvm.Cond.methodLink "InnRoadModel" (139 : Nat) ({ cls := "InnRoadModel", name := "brings", desc := "(I)V" } : Jvm.MethodName)) ∈ lw_all := lw_g (lw_at lw_m10 196 rfl) rfl
theorem q2426 : (Jvm.Cond.privateMethod ({ cls := "InnRoadModel", name := "brings", desc := "(I)V" } : Jvm.MethodName)) ∈ lw_tbl := lw_at lw_m10 197 rfl
theorem q2427 : (Jvm.Cond.instanceMethod ({ cls := "InnRoadModel", name := "brings", desc := "(I)V" } : Jvm.MethodName)) ∈ lw_all := lw_g (lw_at lw_m10 198 rfl) rfl
theorem q2428 : (Jvm.Cond.code ({ cls := "InnRoadModel", name := "brings", desc := "(I)V" } : Jvm.MethodName) prog_12_method_26_code (4 : Nat) (Option.none : Option Jvm.ClassFile.FieldType)) ∈ lw_all := lw_g (lw_at lw_m10 199 rfl) rfl
theorem q2430 : (Jvm.Cond.instanceMethod ({ cls := "InnRoadModel", name := "truncate", desc := "(I)I" } : Jvm.MethodName)) ∈ lw_all := lw_g (lw_at lw_m10 201 rfl) rfl
theorem q2431 : (Jvm.Cond.selects "InnRoadModel" ({ cls := "InnRoadModel", name := "truncate", desc := "(I)I" } : Jvm.MethodName) ({ cls := "InnRoadModel", name := "truncate", desc := "(I)I" } : Jvm.MethodName)) ∈ lw_all := lw_g (lw_at lw_m10 202 rfl) rfl
theorem q2432 : (Jvm.Cond.code ({ cls := "InnRoadModel", name := "truncate", desc := "(I)I" } : Jvm.MethodName) prog_12_method_28_code (2 : Nat) (Option.some Jvm.ClassFile.FieldType.int)) ∈ lw_all := lw_g (lw_at lw_m10 203 rfl) rfl
theorem q2433 : (Jvm.Cond.methodLink "InnRoadModel" (61 : Nat) ({ cls := "InnRoadModel", name := "isIn", desc := "(JJJ)Z" } : Jvm.MethodName)) ∈ lw_all := lw_g (lw_at lw_m10 204 rfl) rfl
theorem q2434 : (Jvm.Cond.static ({ cls := "InnRoadModel", name := "isIn", desc := "(JJJ)Z" } : Jvm.MethodName)) ∈ lw_all := lw_g (lw_at lw_m10 205 rfl) rfl
theorem q2435 : (Jvm.Cond.code ({ cls := "InnRoadModel", name := "isIn", desc := "(JJJ)Z" } : Jvm.MethodName) prog_12_method_3_code (6 : Nat) (Option.some Jvm.ClassFile.FieldType.boolean)) ∈ lw_all := lw_g (lw_at lw_m10 206 rfl) rfl
theorem q2437 : (Jvm.Cond.instanceMethod ({ cls := "InnRoadModel", name := "errorPosition", desc := "()I" } : Jvm.MethodName)) ∈ lw_all := lw_g (lw_at lw_m10 208 rfl) rfl
theorem q2438 : (Jvm.Cond.selects "InnRoadModel" ({ cls := "InnRoadModel", name := "errorPosition", desc := "()I" } : Jvm.MethodName) ({ cls := "InnRoadModel", name := "errorPosition", desc := "()I" } : Jvm.MethodName)) ∈ lw_all := lw_g (lw_at lw_m10 209 rfl) rfl
theorem q2439 : (Jvm.Cond.code ({ cls := "InnRoadModel", name := "errorPosition", desc := "()I" } : Jvm.MethodName) prog_12_method_43_code (1 : Nat) (Option.some Jvm.ClassFile.FieldType.int)) ∈ lw_all := lw_g (lw_at lw_m10 210 rfl) rfl
theorem q2440 : (Jvm.Cond.methodLink "InnRoadModel" (238 : Nat) ({ cls := "InnRoadModel", name := "reads", desc := "()Z" } : Jvm.MethodName)) ∈ lw_all := lw_g (lw_at lw_m10 211 rfl) rfl
theorem q2441 : (Jvm.Cond.privateMethod ({ cls := "InnRoadModel", name := "reads", desc := "()Z" } : Jvm.MethodName)) ∈ lw_tbl := lw_at lw_m10 212 rfl
theorem q2442 : (Jvm.Cond.instanceMethod ({ cls := "InnRoadModel", name := "reads", desc := "()Z" } : Jvm.MethodName)) ∈ lw_all := lw_g (lw_at lw_m10 213 rfl) rfl
theorem q2443 : (Jvm.Cond.code ({ cls := "InnRoadModel", name := "reads", desc := "()Z" } : Jvm.MethodName) prog_12_method_42_code (6 : Nat) (Option.some Jvm.ClassFile.FieldType.boolean)) ∈ lw_all := lw_g (lw_at lw_m10 214 rfl) rfl
theorem q2444 : (Jvm.Cond.methodLink "InnRoadModel" (180 : Nat) ({ cls := "InnRoadModel", name := "advances", desc := "()V" } : Jvm.MethodName)) ∈ lw_all := lw_g (lw_at lw_m10 215 rfl) rfl
theorem q2445 : (Jvm.Cond.privateMethod ({ cls := "InnRoadModel", name := "advances", desc := "()V" } : Jvm.MethodName)) ∈ lw_tbl := lw_at lw_m10 216 rfl
theorem q2446 : (Jvm.Cond.instanceMethod ({ cls := "InnRoadModel", name := "advances", desc := "()V" } : Jvm.MethodName)) ∈ lw_all := lw_g (lw_at lw_m10 217 rfl) rfl
theorem q2447 : (Jvm.Cond.code ({ cls := "InnRoadModel", name := "advances", desc := "()V" } : Jvm.MethodName) prog_12_method_31_code (1 : Nat) (Option.none : Option Jvm.ClassFile.FieldType)) ∈ lw_all := lw_g (lw_at lw_m10 218 rfl) rfl
theorem q2448 : (Jvm.Cond.methodLink "InnRoadModel" (160 : Nat) ({ cls := "InnRoadModel", name := "isLower", desc := "(I)Z" } : Jvm.MethodName)) ∈ lw_all := lw_g (lw_at lw_m10 219 rfl) rfl
theorem q2449 : (Jvm.Cond.privateMethod ({ cls := "InnRoadModel", name := "isLower", desc := "(I)Z" } : Jvm.MethodName)) ∈ lw_tbl := lw_at lw_m10 220 rfl
theorem q2450 : (Jvm.Cond.instanceMethod ({ cls := "InnRoadModel", name := "isLower", desc := "(I)Z" } : Jvm.MethodName)) ∈ lw_all := lw_g (lw_at lw_m10 221 rfl) rfl
theorem q2451 : (Jvm.Cond.code ({ cls := "InnRoadModel", name := "isLower", desc := "(I)Z" } : Jvm.MethodName) prog_12_method_29_code (2 : Nat) (Option.some Jvm.ClassFile.FieldType.boolean)) ∈ lw_all := lw_g (lw_at lw_m10 222 rfl) rfl
theorem q2452 : (Jvm.Cond.constantLong "InnRoadModel" (143 : Nat) (97 : Int64)) ∈ lw_all := lw_g (lw_at lw_m10 223 rfl) rfl
theorem q2453 : (Jvm.Cond.constantLong "InnRoadModel" (145 : Nat) (122 : Int64)) ∈ lw_all := lw_g (lw_at lw_m10 224 rfl) rfl
theorem q2454 : (Jvm.Cond.methodLink "InnRoadModel" (164 : Nat) ({ cls := "InnRoadModel", name := "isDigit", desc := "(I)Z" } : Jvm.MethodName)) ∈ lw_all := lw_g (lw_at lw_m10 225 rfl) rfl
theorem q2455 : (Jvm.Cond.privateMethod ({ cls := "InnRoadModel", name := "isDigit", desc := "(I)Z" } : Jvm.MethodName)) ∈ lw_tbl := lw_at lw_m10 226 rfl
theorem q2456 : (Jvm.Cond.instanceMethod ({ cls := "InnRoadModel", name := "isDigit", desc := "(I)Z" } : Jvm.MethodName)) ∈ lw_all := lw_g (lw_at lw_m10 227 rfl) rfl
theorem q2457 : (Jvm.Cond.code ({ cls := "InnRoadModel", name := "isDigit", desc := "(I)Z" } : Jvm.MethodName) prog_12_method_30_code (2 : Nat) (Option.some Jvm.ClassFile.FieldType.boolean)) ∈ lw_all := lw_g (lw_at lw_m10 228 rfl) rfl
theorem q2458 : (Jvm.Cond.constantLong "InnRoadModel" (147 : Nat) (48 : Int64)) ∈ lw_all := lw_g (lw_at lw_m10 229 rfl) rfl
theorem q2459 : (Jvm.Cond.constantLong "InnRoadModel" (149 : Nat) (57 : Int64)) ∈ lw_all := lw_g (lw_at lw_m10 230 rfl) rfl
theorem q2460 : (Jvm.Cond.stringRef "InnRoadModel" (230 : Nat) "road") ∈ lw_tbl := lw_at lw_m10 231 rfl
theorem q2461 : (Jvm.Cond.methodLink "InnRoadModel" (206 : Nat) ({ cls := "InnRoadModel", name := "readsWord", desc := "(Ljava/lang/String;)Z" } : Jvm.MethodName)) ∈ lw_all := lw_g (lw_at lw_m10 232 rfl) rfl
theorem q2462 : (Jvm.Cond.privateMethod ({ cls := "InnRoadModel", name := "readsWord", desc := "(Ljava/lang/String;)Z" } : Jvm.MethodName)) ∈ lw_tbl := lw_at lw_m10 233 rfl
theorem q2463 : (Jvm.Cond.instanceMethod ({ cls := "InnRoadModel", name := "readsWord", desc := "(Ljava/lang/String;)Z" } : Jvm.MethodName)) ∈ lw_all := lw_g (lw_at lw_m10 234 rfl) rfl
theorem q2464 : (Jvm.Cond.code ({ cls := "InnRoadModel", name := "readsWord", desc := "(Ljava/lang/String;)Z" } : Jvm.MethodName) prog_12_method_33_code (2 : Nat) (Option.some Jvm.ClassFile.FieldType.boolean)) ∈ lw_all := lw_g (lw_at lw_m10 235 rfl) rfl
theorem q2465 : (Jvm.Cond.methodLink "InnRoadModel" (176 : Nat) ({ cls := "InnRoadModel", name := "isWord", desc := "(Ljava/lang/String;)Z" } : Jvm.MethodName)) ∈ lw_all := lw_g (lw_at lw_m10 236 rfl) rfl
theorem q2466 : (Jvm.Cond.privateMethod ({ cls := "InnRoadModel", name := "isWord", desc := "(Ljava/lang/String;)Z" } : Jvm.MethodName)) ∈ lw_tbl := lw_at lw_m10 237 rfl
theorem q2467 : (Jvm.Cond.instanceMethod ({ cls := "InnRoadModel", name := "isWord", desc := "(Ljava/lang/String;)Z" } : Jvm.MethodName)) ∈ lw_all := lw_g (lw_at lw_m10 238 rfl) rfl
theorem q2468 : (Jvm.Cond.code ({ cls := "InnRoadModel", name := "isWord", desc := "(Ljava/lang/String;)Z" } : Jvm.MethodName) prog_12_method_32_code (3 : Nat) (Option.some Jvm.ClassFile.FieldType.boolean)) ∈ lw_all := lw_g (lw_at lw_m10 239 rfl) rfl
theorem q2469 : (Jvm.Cond.methodLink "InnRoadModel" (167 : Nat) ({ cls := "java/lang/String", name := "length", desc := "()I" } : Jvm.MethodName)) ∈ lw_all := lw_g (lw_at lw_m11 0 rfl) rfl
theorem q2470 : (Jvm.Cond.methodLink "InnRoadModel" (172 : Nat) ({ cls := "java/lang/String", name := "charAt", desc := "(I)C" } : Jvm.MethodName)) ∈ lw_all := lw_g (lw_at lw_m11 1 rfl) rfl
theorem q2471 : (Jvm.Cond.methodLink "InnRoadModel" (193 : Nat) ({ cls := "InnRoadModel", name := "readsNumber", desc := "(II)Z" } : Jvm.MethodName)) ∈ lw_all := lw_g (lw_at lw_m11 2 rfl) rfl
theorem q2472 : (Jvm.Cond.privateMethod ({ cls := "InnRoadModel", name := "readsNumber", desc := "(II)Z" } : Jvm.MethodName)) ∈ lw_tbl := lw_at lw_m11 3 rfl
theorem q2473 : (Jvm.Cond.instanceMethod ({ cls := "InnRoadModel", name := "readsNumber", desc := "(II)Z" } : Jvm.MethodName)) ∈ lw_all := lw_g (lw_at lw_m11 4 rfl) rfl
theorem q2474 : (Jvm.Cond.code ({ cls := "InnRoadModel", name := "readsNumber", desc := "(II)Z" } : Jvm.MethodName) prog_12_method_36_code (3 : Nat) (Option.some Jvm.ClassFile.FieldType.boolean)) ∈ lw_all := lw_g (lw_at lw_m11 5 rfl) rfl
theorem q2475 : (Jvm.Cond.methodLink "InnRoadModel" (186 : Nat) ({ cls := "InnRoadModel", name := "isNumber", desc := "(II)Z" } : Jvm.MethodName)) ∈ lw_all := lw_g (lw_at lw_m11 6 rfl) rfl
theorem q2476 : (Jvm.Cond.privateMethod ({ cls := "InnRoadModel", name := "isNumber", desc := "(II)Z" } : Jvm.MethodName)) ∈ lw_tbl := lw_at lw_m11 7 rfl
theorem q2477 : (Jvm.Cond.instanceMethod ({ cls := "InnRoadModel", name := "isNumber", desc := "(II)Z" } : Jvm.MethodName)) ∈ lw_all := lw_g (lw_at lw_m11 8 rfl) rfl
theorem q2478 : (Jvm.Cond.code ({ cls := "InnRoadModel", name := "isNumber", desc := "(II)Z" } : Jvm.MethodName) prog_12_method_35_code (4 : Nat) (Option.some Jvm.ClassFile.FieldType.boolean)) ∈ lw_all := lw_g (lw_at lw_m11 9 rfl) rfl
theorem q2479 : (Jvm.Cond.methodLink "InnRoadModel" (190 : Nat) ({ cls := "InnRoadModel", name := "isSign", desc := "(I)Z" } : Jvm.MethodName)) ∈ lw_all := lw_g (lw_at lw_m11 10 rfl) rfl
theorem q2480 : (Jvm.Cond.privateMethod ({ cls := "InnRoadModel", name := "isSign", desc := "(I)Z" } : Jvm.MethodName)) ∈ lw_tbl := lw_at lw_m11 11 rfl
theorem q2481 : (Jvm.Cond.instanceMethod ({ cls := "InnRoadModel", name := "isSign", desc := "(I)Z" } : Jvm.MethodName)) ∈ lw_all := lw_g (lw_at lw_m11 12 rfl) rfl
theorem q2482 : (Jvm.Cond.code ({ cls := "InnRoadModel", name := "isSign", desc := "(I)Z" } : Jvm.MethodName) prog_12_method_34_code (2 : Nat) (Option.some Jvm.ClassFile.FieldType.boolean)) ∈ lw_all := lw_g (lw_at lw_m11 13 rfl) rfl
theorem q2483 : (Jvm.Cond.methodLink "InnRoadModel" (232 : Nat) ({ cls := "InnRoadModel", name := "partAt", desc := "()I" } : Jvm.MethodName)) ∈ lw_all := lw_g (lw_at lw_m11 14 rfl) rfl
theorem q2484 : (Jvm.Cond.privateMethod ({ cls := "InnRoadModel", name := "partAt", desc := "()I" } : Jvm.MethodName)) ∈ lw_tbl := lw_at lw_m11 15 rfl
theorem q2485 : (Jvm.Cond.instanceMethod ({ cls := "InnRoadModel", name := "partAt", desc := "()I" } : Jvm.MethodName)) ∈ lw_all := lw_g (lw_at lw_m11 16 rfl) rfl
theorem q2486 : (Jvm.Cond.code ({ cls := "InnRoadModel", name := "partAt", desc := "()I" } : Jvm.MethodName) prog_12_method_40_code (1 : Nat) (Option.some Jvm.ClassFile.FieldType.int)) ∈ lw_all := lw_g (lw_at lw_m11 17 rfl) rfl
theorem q2487 : (Jvm.Cond.stringRef "InnRoadModel" (212 : Nat) "inn") ∈ lw_tbl := lw_at lw_m11 18 rfl
theorem q2488 : (Jvm.Cond.stringRef "InnRoadModel" (214 : Nat) "first") ∈ lw_tbl := lw_at lw_m11 19 rfl
theorem q2489 : (Jvm.Cond.stringRef "InnRoadModel" (216 : Nat) "second") ∈ lw_tbl := lw_at lw_m11 20 rfl
theorem q2490 : (Jvm.Cond.stringRef "InnRoadModel" (218 : Nat) "count") ∈ lw_tbl := lw_at lw_m11 21 rfl
theorem q2491 : (Jvm.Cond.stringRef "InnRoadModel" (220 : Nat) "next") ∈ lw_tbl := lw_at lw_m11 22 rfl
theorem q2492 : (Jvm.Cond.stringRef "InnRoadModel" (222 : Nat) "skip") ∈ lw_tbl := lw_at lw_m11 23 rfl
theorem q2493 : (Jvm.Cond.methodLink "InnRoadModel" (235 : Nat) ({ cls := "InnRoadModel", name := "readsPart", desc := "(II)Z" } : Jvm.MethodName)) ∈ lw_all := lw_g (lw_at lw_m11 24 rfl) rfl
theorem q2494 : (Jvm.Cond.privateMethod ({ cls := "InnRoadModel", name := "readsPart", desc := "(II)Z" } : Jvm.MethodName)) ∈ lw_tbl := lw_at lw_m11 25 rfl
theorem q2495 : (Jvm.Cond.instanceMethod ({ cls := "InnRoadModel", name := "readsPart", desc := "(II)Z" } : Jvm.MethodName)) ∈ lw_all := lw_g (lw_at lw_m11 26 rfl) rfl
theorem q2496 : (Jvm.Cond.code ({ cls := "InnRoadModel", name := "readsPart", desc := "(II)Z" } : Jvm.MethodName) prog_12_method_41_code (4 : Nat) (Option.some Jvm.ClassFile.FieldType.boolean)) ∈ lw_all := lw_g (lw_at lw_m11 27 rfl) rfl
theorem q2497 : (Jvm.Cond.methodLink "InnRoadModel" (224 : Nat) ({ cls := "InnRoadModel", name := "readsInn", desc := "(I)Z" } : Jvm.MethodName)) ∈ lw_all := lw_g (lw_at lw_m11 28 rfl) rfl
theorem q2498 : (Jvm.Cond.privateMethod ({ cls := "InnRoadModel", name := "readsInn", desc := "(I)Z" } : Jvm.MethodName)) ∈ lw_tbl := lw_at lw_m11 29 rfl
theorem q2499 : (Jvm.Cond.instanceMethod ({ cls := "InnRoadModel", name := "readsInn", desc := "(I)Z" } : Jvm.MethodName)) ∈ lw_all := lw_g (lw_at lw_m11 30 rfl) rfl
theorem q2500 : (Jvm.Cond.code ({ cls := "InnRoadModel", name := "readsInn", desc := "(I)Z" } : Jvm.MethodName) prog_12_method_38_code (3 : Nat) (Option.some Jvm.ClassFile.FieldType.boolean)) ∈ lw_all := lw_g (lw_at lw_m11 31 rfl) rfl
theorem q2501 : (Jvm.Cond.methodLink "InnRoadModel" (196 : Nat) ({ cls := "InnRoadModel", name := "atMile", desc := "([II)I" } : Jvm.MethodName)) ∈ lw_all := lw_g (lw_at lw_m11 32 rfl) rfl
theorem q2502 : (Jvm.Cond.static ({ cls := "InnRoadModel", name := "atMile", desc := "([II)I" } : Jvm.MethodName)) ∈ lw_all := lw_g (lw_at lw_m11 33 rfl) rfl
theorem q2503 : (Jvm.Cond.code ({ cls := "InnRoadModel", name := "atMile", desc := "([II)I" } : Jvm.MethodName) prog_12_method_11_code (3 : Nat) (Option.some Jvm.ClassFile.FieldType.int)) ∈ lw_all := lw_g (lw_at lw_m11 34 rfl) rfl
theorem q2504 : (Jvm.Cond.stringRef "InnRoadModel" (202 : Nat) "closed") ∈ lw_tbl := lw_at lw_m11 35 rfl
theorem q2505 : (Jvm.Cond.stringRef "InnRoadModel" (204 : Nat) "letters") ∈ lw_tbl := lw_at lw_m11 36 rfl
theorem q2506 : (Jvm.Cond.methodLink "InnRoadModel" (209 : Nat) ({ cls := "InnRoadModel", name := "readsPointer", desc := "(I)Z" } : Jvm.MethodName)) ∈ lw_all := lw_g (lw_at lw_m11 37 rfl) rfl
theorem q2507 : (Jvm.Cond.privateMethod ({ cls := "InnRoadModel", name := "readsPointer", desc := "(I)Z" } : Jvm.MethodName)) ∈ lw_tbl := lw_at lw_m11 38 rfl
theorem q2508 : (Jvm.Cond.instanceMethod ({ cls := "InnRoadModel", name := "readsPointer", desc := "(I)Z" } : Jvm.MethodName)) ∈ lw_all := lw_g (lw_at lw_m11 39 rfl) rfl
theorem q2509 : (Jvm.Cond.code ({ cls := "InnRoadModel", name := "readsPointer", desc := "(I)Z" } : Jvm.MethodName) prog_12_method_37_code (3 : Nat) (Option.some Jvm.ClassFile.FieldType.boolean)) ∈ lw_all := lw_g (lw_at lw_m11 40 rfl) rfl
theorem q2510 : (Jvm.Cond.methodLink "InnRoadModel" (227 : Nat) ({ cls := "InnRoadModel", name := "readsOwnPointer", desc := "(II)Z" } : Jvm.MethodName)) ∈ lw_all := lw_g (lw_at lw_m11 41 rfl) rfl
theorem q2511 : (Jvm.Cond.privateMethod ({ cls := "InnRoadModel", name := "readsOwnPointer", desc := "(II)Z" } : Jvm.MethodName)) ∈ lw_tbl := lw_at lw_m11 42 rfl
theorem q2512 : (Jvm.Cond.instanceMethod ({ cls := "InnRoadModel", name := "readsOwnPointer", desc := "(II)Z" } : Jvm.MethodName)) ∈ lw_all := lw_g (lw_at lw_m11 43 rfl) rfl
theorem q2513 : (Jvm.Cond.code ({ cls := "InnRoadModel", name := "readsOwnPointer", desc := "(II)Z" } : Jvm.MethodName) prog_12_method_39_code (3 : Nat) (Option.some Jvm.ClassFile.FieldType.boolean)) ∈ lw_all := lw_g (lw_at lw_m11 44 rfl) rfl
theorem q2515 : (Jvm.Cond.instanceMethod ({ cls := "InnRoadModel", name := "load", desc := "()I" } : Jvm.MethodName)) ∈ lw_all := lw_g (lw_at lw_m11 46 rfl) rfl
theorem q2516 : (Jvm.Cond.selects "InnRoadModel" ({ cls := "InnRoadModel", name := "load", desc := "()I" } : Jvm.MethodName) ({ cls := "InnRoadModel", name := "load", desc := "()I" } : Jvm.MethodName)) ∈ lw_all := lw_g (lw_at lw_m11 47 rfl) rfl
theorem q2517 : (Jvm.Cond.code ({ cls := "InnRoadModel", name := "load", desc := "()I" } : Jvm.MethodName) prog_12_method_44_code (1 : Nat) (Option.some Jvm.ClassFile.FieldType.int)) ∈ lw_all := lw_g (lw_at lw_m11 48 rfl) rfl
theorem q2518 : (Jvm.Cond.methodLink "InnRoadModel" (242 : Nat) ({ cls := "InnRoadModel", name := "remembers", desc := "()V" } : Jvm.MethodName)) ∈ lw_all := lw_g (lw_at lw_m11 49 rfl) rfl
theorem q2519 : (Jvm.Cond.privateMethod ({ cls := "InnRoadModel", name := "remembers", desc := "()V" } : Jvm.MethodName)) ∈ lw_tbl := lw_at lw_m11 50 rfl
theorem q2520 : (Jvm.Cond.instanceMethod ({ cls := "InnRoadModel", name := "remembers", desc := "()V" } : Jvm.MethodName)) ∈ lw_all := lw_g (lw_at lw_m11 51 rfl) rfl
theorem q2521 : (Jvm.Cond.code ({ cls := "InnRoadModel", name := "remembers", desc := "()V" } : Jvm.MethodName) prog_12_method_7_code (3 : Nat) (Option.none : Option Jvm.ClassFile.FieldType)) ∈ lw_all := lw_g (lw_at lw_m11 52 rfl) rfl
theorem q2522 : (Jvm.Cond.methodLink "InnRoadModel" (55 : Nat) ({ cls := "InnRoadModel", name := "copies", desc := "([I[I)V" } : Jvm.MethodName)) ∈ lw_all := lw_g (lw_at lw_m11 53 rfl) rfl
theorem q2523 : (Jvm.Cond.static ({ cls := "InnRoadModel", name := "copies", desc := "([I[I)V" } : Jvm.MethodName)) ∈ lw_all := lw_g (lw_at lw_m11 54 rfl) rfl
theorem q2524 : (Jvm.Cond.code ({ cls := "InnRoadModel", name := "copies", desc := "([I[I)V" } : Jvm.MethodName) prog_12_method_6_code (3 : Nat) (Option.none : Option Jvm.ClassFile.FieldType)) ∈ lw_all := lw_g (lw_at lw_m11 55 rfl) rfl
theorem q2526 : (Jvm.Cond.instanceMethod ({ cls := "InnRoadModel", name := "addInn", desc := "(I)I" } : Jvm.MethodName)) ∈ lw_all := lw_g (lw_at lw_m11 57 rfl) rfl
theorem q2527 : (Jvm.Cond.selects "InnRoadModel" ({ cls := "InnRoadModel", name := "addInn", desc := "(I)I" } : Jvm.MethodName) ({ cls := "InnRoadModel", name := "addInn", desc := "(I)I" } : Jvm.MethodName)) ∈ lw_all := lw_g (lw_at lw_m11 58 rfl) rfl
theorem q2528 : (Jvm.Cond.code ({ cls := "InnRoadModel", name := "addInn", desc := "(I)I" } : Jvm.MethodName) prog_12_method_45_code (3 : Nat) (Option.some Jvm.ClassFile.FieldType.int)) ∈ lw_all := lw_g (lw_at lw_m11 59 rfl) rfl
theorem q2529 : (Jvm.Cond.constantLong "InnRoadModel" (245 : Nat) (999 : Int64)) ∈ lw_all := lw_g (lw_at lw_m11 60 rfl) rfl
theorem q2530 : (Jvm.Cond.methodLink "InnRoadModel" (101 : Nat) ({ cls := "InnRoadModel", name := "isSound", desc := "([I)Z" } : Jvm.MethodName)) ∈ lw_all := lw_g (lw_at lw_m11 61 rfl) rfl
theorem q2531 : (Jvm.Cond.privateMethod ({ cls := "InnRoadModel", name := "isSound", desc := "([I)Z" } : Jvm.MethodName)) ∈ lw_tbl := lw_at lw_m11 62 rfl
theorem q2532 : (Jvm.Cond.instanceMethod ({ cls := "InnRoadModel", name := "isSound", desc := "([I)Z" } : Jvm.MethodName)) ∈ lw_all := lw_g (lw_at lw_m11 63 rfl) rfl
theorem q2533 : (Jvm.Cond.code ({ cls := "InnRoadModel", name := "isSound", desc := "([I)Z" } : Jvm.MethodName) prog_12_method_20_code (4 : Nat) (Option.some Jvm.ClassFile.FieldType.boolean)) ∈ lw_all := lw_g (lw_at lw_m11 64 rfl) rfl
theorem q2534 : (Jvm.Cond.methodLink "InnRoadModel" (95 : Nat) ({ cls := "InnRoadModel", name := "laysChain", desc := "([I)V" } : Jvm.MethodName)) ∈ lw_all := lw_g (lw_at lw_m11 65 rfl) rfl
theorem q2535 : (Jvm.Cond.privateMethod ({ cls := "InnRoadModel", name := "laysChain", desc := "([I)V" } : Jvm.MethodName)) ∈ lw_tbl := lw_at lw_m11 66 rfl
theorem q2536 : (Jvm.Cond.instanceMethod ({ cls := "InnRoadModel", name := "laysChain", desc := "([I)V" } : Jvm.MethodName)) ∈ lw_all := lw_g (lw_at lw_m11 67 rfl) rfl
theorem q2537 : (Jvm.Cond.code ({ cls := "InnRoadModel", name := "laysChain", desc := "([I)V" } : Jvm.MethodName) prog_12_method_17_code (3 : Nat) (Option.none : Option Jvm.ClassFile.FieldType)) ∈ lw_all := lw_g (lw_at lw_m11 68 rfl) rfl
theorem q2538 : (Jvm.Cond.methodLink "InnRoadModel" (85 : Nat) ({ cls := "InnRoadModel", name := "hasInnAt", desc := "([II)Z" } : Jvm.MethodName)) ∈ lw_all := lw_g (lw_at lw_m11 69 rfl) rfl
theorem q2539 : (Jvm.Cond.static ({ cls := "InnRoadModel", name := "hasInnAt", desc := "([II)Z" } : Jvm.MethodName)) ∈ lw_all := lw_g (lw_at lw_m11 70 rfl) rfl
theorem q2540 : (Jvm.Cond.code ({ cls := "InnRoadModel", name := "hasInnAt", desc := "([II)Z" } : Jvm.MethodName) prog_12_method_8_code (2 : Nat) (Option.some Jvm.ClassFile.FieldType.boolean)) ∈ lw_all := lw_g (lw_at lw_m11 71 rfl) rfl
theorem q2541 : (Jvm.Cond.constantLong "InnRoadModel" (59 : Nat) (11 : Int64)) ∈ lw_all := lw_g (lw_at lw_m11 72 rfl) rfl
theorem q2542 : (Jvm.Cond.methodLink "InnRoadModel" (88 : Nat) ({ cls := "InnRoadModel", name := "positionOf", desc := "(I)I" } : Jvm.MethodName)) ∈ lw_all := lw_g (lw_at lw_m11 73 rfl) rfl
theorem q2543 : (Jvm.Cond.privateMethod ({ cls := "InnRoadModel", name := "positionOf", desc := "(I)I" } : Jvm.MethodName)) ∈ lw_tbl := lw_at lw_m11 74 rfl
theorem q2544 : (Jvm.Cond.instanceMethod ({ cls := "InnRoadModel", name := "positionOf", desc := "(I)I" } : Jvm.MethodName)) ∈ lw_all := lw_g (lw_at lw_m11 75 rfl) rfl
theorem q2545 : (Jvm.Cond.code ({ cls := "InnRoadModel", name := "positionOf", desc := "(I)I" } : Jvm.MethodName) prog_12_method_18_code (3 : Nat) (Option.some Jvm.ClassFile.FieldType.int)) ∈ lw_all := lw_g (lw_at lw_m11 76 rfl) rfl
theorem q2546 : (Jvm.Cond.methodLink "InnRoadModel" (98 : Nat) ({ cls := "InnRoadModel", name := "nextOf", desc := "([II)I" } : Jvm.MethodName)) ∈ lw_all := lw_g (lw_at lw_m11 77 rfl) rfl
theorem q2547 : (Jvm.Cond.static ({ cls := "InnRoadModel", name := "nextOf", desc := "([II)I" } : Jvm.MethodName)) ∈ lw_all := lw_g (lw_at lw_m11 78 rfl) rfl
theorem q2548 : (Jvm.Cond.code ({ cls := "InnRoadModel", name := "nextOf", desc := "([II)I" } : Jvm.MethodName) prog_12_method_19_code (2 : Nat) (Option.some Jvm.ClassFile.FieldType.int)) ∈ lw_all := lw_g (lw_at lw_m11 79 rfl) rfl
theorem q2550 : (Jvm.Cond.instanceMethod ({ cls := "InnRoadModel", name := "removeInn", desc := "(I)I" } : Jvm.MethodName)) ∈ lw_all := lw_g (lw_at lw_m11 81 rfl) rfl
theorem q2551 : (Jvm.Cond.selects "InnRoadModel" ({ cls := "InnRoadModel", name := "removeInn", desc := "(I)I" } : Jvm.MethodName) ({ cls := "InnRoadModel", name := "removeInn", desc := "(I)I" } : Jvm.MethodName)) ∈ lw_all := lw_g (lw_at lw_m11 82 rfl) rfl
theorem q2552 : (Jvm.Cond.code ({ cls := "InnRoadModel", name := "removeInn", desc := "(I)I" } : Jvm.MethodName) prog_12_method_46_code (2 : Nat) (Option.some Jvm.ClassFile.FieldType.int)) ∈ lw_all := lw_g (lw_at lw_m11 83 rfl) rfl
theorem q2554 : (Jvm.Cond.instanceMethod ({ cls := "InnRoadModel", name := "openInn", desc := "(I)Z" } : Jvm.MethodName)) ∈ lw_all := lw_g (lw_at lw_m11 85 rfl) rfl
theorem q2555 : (Jvm.Cond.selects "InnRoadModel" ({ cls := "InnRoadModel", name := "openInn", desc := "(I)Z" } : Jvm.MethodName) ({ cls := "InnRoadModel", name := "openInn", desc := "(I)Z" } : Jvm.MethodName)) ∈ lw_all := lw_g (lw_at lw_m11 86 rfl) rfl
theorem q2556 : (Jvm.Cond.code ({ cls := "InnRoadModel", name := "openInn", desc := "(I)Z" } : Jvm.MethodName) prog_12_method_48_code (2 : Nat) (Option.some Jvm.ClassFile.FieldType.boolean)) ∈ lw_all := lw_g (lw_at lw_m11 87 rfl) rfl
theorem q2557 : (Jvm.Cond.methodLink "InnRoadModel" (247 : Nat) ({ cls := "InnRoadModel", name := "setsOpen", desc := "(II)Z" } : Jvm.MethodName)) ∈ lw_all := lw_g (lw_at lw_m11 88 rfl) rfl
theorem q2558 : (Jvm.Cond.privateMethod ({ cls := "InnRoadModel", name := "setsOpen", desc := "(II)Z" } : Jvm.MethodName)) ∈ lw_tbl := lw_at lw_m11 89 rfl
theorem q2559 : (Jvm.Cond.instanceMethod ({ cls := "InnRoadModel", name := "setsOpen", desc := "(II)Z" } : Jvm.MethodName)) ∈ lw_all := lw_g (lw_at lw_m11 90 rfl) rfl
theorem q2560 : (Jvm.Cond.code ({ cls := "InnRoadModel", name := "setsOpen", desc := "(II)Z" } : Jvm.MethodName) prog_12_method_47_code (4 : Nat) (Option.some Jvm.ClassFile.FieldType.boolean)) ∈ lw_all := lw_g (lw_at lw_m11 91 rfl) rfl
theorem q2562 : (Jvm.Cond.instanceMethod ({ cls := "InnRoadModel", name := "closeInn", desc := "(I)Z" } : Jvm.MethodName)) ∈ lw_all := lw_g (lw_at lw_m11 93 rfl) rfl
theorem q2563 : (Jvm.Cond.selects "InnRoadModel" ({ cls := "InnRoadModel", name := "closeInn", desc := "(I)Z" } : Jvm.MethodName) ({ cls := "InnRoadModel", name := "closeInn", desc := "(I)Z" } : Jvm.MethodName)) ∈ lw_all := lw_g (lw_at lw_m11 94 rfl) rfl
theorem q2564 : (Jvm.Cond.code ({ cls := "InnRoadModel", name := "closeInn", desc := "(I)Z" } : Jvm.MethodName) prog_12_method_49_code (2 : Nat) (Option.some Jvm.ClassFile.FieldType.boolean)) ∈ lw_all := lw_g (lw_at lw_m11 95 rfl) rfl
theorem q2566 : (Jvm.Cond.instanceMethod ({ cls := "InnRoadModel", name := "snow", desc := "(II)I" } : Jvm.MethodName)) ∈ lw_all := lw_g (lw_at lw_m11 97 rfl) rfl
theorem q2567 : (Jvm.Cond.selects "InnRoadModel" ({ cls := "InnRoadModel", name := "snow", desc := "(II)I" } : Jvm.MethodName) ({ cls := "InnRoadModel", name := "snow", desc := "(II)I" } : Jvm.MethodName)) ∈ lw_all := lw_g (lw_at lw_m11 98 rfl) rfl
theorem q2568 : (Jvm.Cond.code ({ cls := "InnRoadModel", name := "snow", desc := "(II)I" } : Jvm.MethodName) prog_12_method_50_code (5 : Nat) (Option.some Jvm.ClassFile.FieldType.int)) ∈ lw_all := lw_g (lw_at lw_m11 99 rfl) rfl
theorem q2570 : (Jvm.Cond.instanceMethod ({ cls := "InnRoadModel", name := "thaw", desc := "()I" } : Jvm.MethodName)) ∈ lw_all := lw_g (lw_at lw_m11 101 rfl) rfl
theorem q2571 : (Jvm.Cond.selects "InnRoadModel" ({ cls := "InnRoadModel", name := "thaw", desc := "()I" } : Jvm.MethodName) ({ cls := "InnRoadModel", name := "thaw", desc := "()I" } : Jvm.MethodName)) ∈ lw_all := lw_g (lw_at lw_m11 102 rfl) rfl
theorem q2572 : (Jvm.Cond.code ({ cls := "InnRoadModel", name := "thaw", desc := "()I" } : Jvm.MethodName) prog_12_method_51_code (3 : Nat) (Option.some Jvm.ClassFile.FieldType.int)) ∈ lw_all := lw_g (lw_at lw_m11 103 rfl) rfl
theorem q2574 : (Jvm.Cond.instanceMethod ({ cls := "InnRoadModel", name := "setRange", desc := "(I)I" } : Jvm.MethodName)) ∈ lw_all := lw_g (lw_at lw_m11 105 rfl) rfl
theorem q2575 : (Jvm.Cond.selects "InnRoadModel" ({ cls := "InnRoadModel", name := "setRange", desc := "(I)I" } : Jvm.MethodName) ({ cls := "InnRoadModel", name := "setRange", desc := "(I)I" } : Jvm.MethodName)) ∈ lw_all := lw_g (lw_at lw_m11 106 rfl) rfl
theorem q2576 : (Jvm.Cond.code ({ cls := "InnRoadModel", name := "setRange", desc := "(I)I" } : Jvm.MethodName) prog_12_method_52_code (3 : Nat) (Option.some Jvm.ClassFile.FieldType.int)) ∈ lw_all := lw_g (lw_at lw_m11 107 rfl) rfl
theorem q2578 : (Jvm.Cond.instanceMethod ({ cls := "InnRoadModel", name := "setNext", desc := "(II)I" } : Jvm.MethodName)) ∈ lw_all := lw_g (lw_at lw_m11 109 rfl) rfl
theorem q2579 : (Jvm.Cond.selects "InnRoadModel" ({ cls := "InnRoadModel", name := "setNext", desc := "(II)I" } : Jvm.MethodName) ({ cls := "InnRoadModel", name := "setNext", desc := "(II)I" } : Jvm.MethodName)) ∈ lw_all := lw_g (lw_at lw_m11 110 rfl) rfl
theorem q2580 : (Jvm.Cond.code ({ cls := "InnRoadModel", name := "setNext", desc := "(II)I" } : Jvm.MethodName) prog_12_method_54_code (3 : Nat) (Option.some Jvm.ClassFile.FieldType.int)) ∈ lw_all := lw_g (lw_at lw_m11 111 rfl) rfl
theorem q2581 : (Jvm.Cond.methodLink "InnRoadModel" (250 : Nat) ({ cls := "InnRoadModel", name := "isPointer", desc := "(I)Z" } : Jvm.MethodName)) ∈ lw_all := lw_g (lw_at lw_m11 112 rfl) rfl
theorem q2582 : (Jvm.Cond.static ({ cls := "InnRoadModel", name := "isPointer", desc := "(I)Z" } : Jvm.MethodName)) ∈ lw_all := lw_g (lw_at lw_m11 113 rfl) rfl
theorem q2583 : (Jvm.Cond.code ({ cls := "InnRoadModel", name := "isPointer", desc := "(I)Z" } : Jvm.MethodName) prog_12_method_9_code (1 : Nat) (Option.some Jvm.ClassFile.FieldType.boolean)) ∈ lw_all := lw_g (lw_at lw_m11 114 rfl) rfl
theorem q2584 : (Jvm.Cond.constantLong "InnRoadModel" (65 : Nat) (-1 : Int64)) ∈ lw_all := lw_g (lw_at lw_m11 115 rfl) rfl
theorem q2585 : (Jvm.Cond.methodLink "InnRoadModel" (253 : Nat) ({ cls := "InnRoadModel", name := "overwrites", desc := "(II)I" } : Jvm.MethodName)) ∈ lw_all := lw_g (lw_at lw_m11 116 rfl) rfl
theorem q2586 : (Jvm.Cond.privateMethod ({ cls := "InnRoadModel", name := "overwrites", desc := "(II)I" } : Jvm.MethodName)) ∈ lw_tbl := lw_at lw_m11 117 rfl
theorem q2587 : (Jvm.Cond.instanceMethod ({ cls := "InnRoadModel", name := "overwrites", desc := "(II)I" } : Jvm.MethodName)) ∈ lw_all := lw_g (lw_at lw_m11 118 rfl) rfl
theorem q2588 : (Jvm.Cond.code ({ cls := "InnRoadModel", name := "overwrites", desc := "(II)I" } : Jvm.MethodName) prog_12_method_53_code (4 : Nat) (Option.some Jvm.ClassFile.FieldType.int)) ∈ lw_all := lw_g (lw_at lw_m11 119 rfl) rfl
theorem q2590 : (Jvm.Cond.instanceMethod ({ cls := "InnRoadModel", name := "setSkip", desc := "(II)I" } : Jvm.MethodName)) ∈ lw_all := lw_g (lw_at lw_m11 121 rfl) rfl
theorem q2591 : (Jvm.Cond.selects "InnRoadModel" ({ cls := "InnRoadModel", name := "setSkip", desc := "(II)I" } : Jvm.MethodName) ({ cls := "InnRoadModel", name := "setSkip", desc := "(II)I" } : Jvm.MethodName)) ∈ lw_all := lw_g (lw_at lw_m11 122 rfl) rfl
theorem q2592 : (Jvm.Cond.code ({ cls := "InnRoadModel", name := "setSkip", desc := "(II)I" } : Jvm.MethodName) prog_12_method_55_code (3 : Nat) (Option.some Jvm.ClassFile.FieldType.int)) ∈ lw_all := lw_g (lw_at lw_m11 123 rfl) rfl
theorem q2594 : (Jvm.Cond.instanceMethod ({ cls := "InnRoadModel", name := "setFirst", desc := "(I)I" } : Jvm.MethodName)) ∈ lw_all := lw_g (lw_at lw_m11 125 rfl) rfl
theorem q2595 : (Jvm.Cond.selects "InnRoadModel" ({ cls := "InnRoadModel", name := "setFirst", desc := "(I)I" } : Jvm.MethodName) ({ cls := "InnRoadModel", name := "setFirst", desc := "(I)I" } : Jvm.MethodName)) ∈ lw_all := lw_g (lw_at lw_m11 126 rfl) rfl
theorem q2596 : (Jvm.Cond.code ({ cls := "InnRoadModel", name := "setFirst", desc := "(I)I" } : Jvm.MethodName) prog_12_method_56_code (2 : Nat) (Option.some Jvm.ClassFile.FieldType.int)) ∈ lw_all := lw_g (lw_at lw_m11 127 rfl) rfl
theorem q2598 : (Jvm.Cond.instanceMethod ({ cls := "InnRoadModel", name := "setSecond", desc := "(I)I" } : Jvm.MethodName)) ∈ lw_all := lw_g (lw_at lw_m11 129 rfl) rfl
theorem q2599 : (Jvm.Cond.selects "InnRoadModel" ({ cls := "InnRoadModel", name := "setSecond", desc := "(I)I" } : Jvm.MethodName) ({ cls := "InnRoadModel", name := "setSecond", desc := "(I)I" } : Jvm.MethodName)) ∈ lw_all := lw_g (lw_at lw_m11 130 rfl) rfl
theorem q2600 : (Jvm.Cond.code ({ cls := "InnRoadModel", name := "setSecond", desc := "(I)I" } : Jvm.MethodName) prog_12_method_57_code (2 : Nat) (Option.some Jvm.ClassFile.FieldType.int)) ∈ lw_all := lw_g (lw_at lw_m11 131 rfl) rfl
theorem q2602 : (Jvm.Cond.instanceMethod ({ cls := "InnRoadModel", name := "setStoredCount", desc := "(I)I" } : Jvm.MethodName)) ∈ lw_all := lw_g (lw_at lw_m11 133 rfl) rfl
theorem q2603 : (Jvm.Cond.selects "InnRoadModel" ({ cls := "InnRoadModel", name := "setStoredCount", desc := "(I)I" } : Jvm.MethodName) ({ cls := "InnRoadModel", name := "setStoredCount", desc := "(I)I" } : Jvm.MethodName)) ∈ lw_all := lw_g (lw_at lw_m11 134 rfl) rfl
theorem q2604 : (Jvm.Cond.code ({ cls := "InnRoadModel", name := "setStoredCount", desc := "(I)I" } : Jvm.MethodName) prog_12_method_58_code (2 : Nat) (Option.some Jvm.ClassFile.FieldType.int)) ∈ lw_all := lw_g (lw_at lw_m11 135 rfl) rfl
theorem q2605 : (Jvm.Cond.constantLong "InnRoadModel" (257 : Nat) (12 : Int64)) ∈ lw_all := lw_g (lw_at lw_m11 136 rfl) rfl
theorem q2607 : (Jvm.Cond.instanceMethod ({ cls := "InnRoadModel", name := "repair", desc := "()I" } : Jvm.MethodName)) ∈ lw_all := lw_g (lw_at lw_m11 138 rfl) rfl
theorem q2608 : (Jvm.Cond.selects "InnRoadModel" ({ cls := "InnRoadModel", name := "repair", desc := "()I" } : Jvm.MethodName) ({ cls := "InnRoadModel", name := "repair", desc := "()I" } : Jvm.MethodName)) ∈ lw_all := lw_g (lw_at lw_m11 139 rfl) rfl
theorem q2609 : (Jvm.Cond.code ({ cls := "InnRoadModel", name := "repair", desc := "()I" } : Jvm.MethodName) prog_12_method_59_code (2 : Nat) (Option.some Jvm.ClassFile.FieldType.int)) ∈ lw_all := lw_g (lw_at lw_m11 140 rfl) rfl
theorem q2610 : (Jvm.Cond.methodLink "InnRoadModel" (259 : Nat) ({ cls := "InnRoadModel", name := "fault", desc := "()I" } : Jvm.MethodName)) ∈ lw_all := lw_g (lw_at lw_m11 141 rfl) rfl
theorem q2611 : (Jvm.Cond.privateMethod ({ cls := "InnRoadModel", name := "fault", desc := "()I" } : Jvm.MethodName)) ∈ lw_tbl := lw_at lw_m11 142 rfl
theorem q2612 : (Jvm.Cond.instanceMethod ({ cls := "InnRoadModel", name := "fault", desc := "()I" } : Jvm.MethodName)) ∈ lw_all := lw_g (lw_at lw_m11 143 rfl) rfl
theorem q2613 : (Jvm.Cond.code ({ cls := "InnRoadModel", name := "fault", desc := "()I" } : Jvm.MethodName) prog_12_method_21_code (2 : Nat) (Option.some Jvm.ClassFile.FieldType.int)) ∈ lw_all := lw_g (lw_at lw_m11 144 rfl) rfl
theorem q2614 : (Jvm.Cond.methodLink "InnRoadModel" (75 : Nat) ({ cls := "InnRoadModel", name := "laysDue", desc := "()V" } : Jvm.MethodName)) ∈ lw_all := lw_g (lw_at lw_m11 145 rfl) rfl
theorem q2615 : (Jvm.Cond.privateMethod ({ cls := "InnRoadModel", name := "laysDue", desc := "()V" } : Jvm.MethodName)) ∈ lw_tbl := lw_at lw_m11 146 rfl
theorem q2616 : (Jvm.Cond.instanceMethod ({ cls := "InnRoadModel", name := "laysDue", desc := "()V" } : Jvm.MethodName)) ∈ lw_all := lw_g (lw_at lw_m11 147 rfl) rfl
theorem q2617 : (Jvm.Cond.code ({ cls := "InnRoadModel", name := "laysDue", desc := "()V" } : Jvm.MethodName) prog_12_method_14_code (1 : Nat) (Option.none : Option Jvm.ClassFile.FieldType)) ∈ lw_all := lw_g (lw_at lw_m11 148 rfl) rfl
theorem q2618 : (Jvm.Cond.methodLink "InnRoadModel" (78 : Nat) ({ cls := "InnRoadModel", name := "isStored", desc := "([II)Z" } : Jvm.MethodName)) ∈ lw_all := lw_g (lw_at lw_m11 149 rfl) rfl
theorem q2619 : (Jvm.Cond.static ({ cls := "InnRoadModel", name := "isStored", desc := "([II)Z" } : Jvm.MethodName)) ∈ lw_all := lw_g (lw_at lw_m11 150 rfl) rfl
theorem q2620 : (Jvm.Cond.code ({ cls := "InnRoadModel", name := "isStored", desc := "([II)Z" } : Jvm.MethodName) prog_12_method_15_code (2 : Nat) (Option.some Jvm.ClassFile.FieldType.boolean)) ∈ lw_all := lw_g (lw_at lw_m11 151 rfl) rfl
theorem q2622 : (Jvm.Cond.instanceMethod ({ cls := "InnRoadModel", name := "rebuild", desc := "()I" } : Jvm.MethodName)) ∈ lw_all := lw_g (lw_at lw_m11 153 rfl) rfl
theorem q2623 : (Jvm.Cond.selects "InnRoadModel" ({ cls := "InnRoadModel", name := "rebuild", desc := "()I" } : Jvm.MethodName) ({ cls := "InnRoadModel", name := "rebuild", desc := "()I" } : Jvm.MethodName)) ∈ lw_all := lw_g (lw_at lw_m11 154 rfl) rfl
theorem q2624 : (Jvm.Cond.code ({ cls := "InnRoadModel", name := "rebuild", desc := "()I" } : Jvm.MethodName) prog_12_method_60_code (2 : Nat) (Option.some Jvm.ClassFile.FieldType.int)) ∈ lw_all := lw_g (lw_at lw_m11 155 rfl) rfl
theorem q2625 : (Jvm.Cond.methodLink "InnRoadModel" (262 : Nat) ({ cls := "InnRoadModel", name := "wrongOnes", desc := "()I" } : Jvm.MethodName)) ∈ lw_all := lw_g (lw_at lw_m11 156 rfl) rfl
theorem q2626 : (Jvm.Cond.privateMethod ({ cls := "InnRoadModel", name := "wrongOnes", desc := "()I" } : Jvm.MethodName)) ∈ lw_tbl := lw_at lw_m11 157 rfl
theorem q2627 : (Jvm.Cond.instanceMethod ({ cls := "InnRoadModel", name := "wrongOnes", desc := "()I" } : Jvm.MethodName)) ∈ lw_all := lw_g (lw_at lw_m11 158 rfl) rfl
theorem q2628 : (Jvm.Cond.code ({ cls := "InnRoadModel", name := "wrongOnes", desc := "()I" } : Jvm.MethodName) prog_12_method_16_code (3 : Nat) (Option.some Jvm.ClassFile.FieldType.int)) ∈ lw_all := lw_g (lw_at lw_m11 159 rfl) rfl
theorem q2630 : (Jvm.Cond.instanceMethod ({ cls := "InnRoadModel", name := "leaveLetters", desc := "(II)I" } : Jvm.MethodName)) ∈ lw_all := lw_g (lw_at lw_m11 161 rfl) rfl
theorem q2631 : (Jvm.Cond.selects "InnRoadModel" ({ cls := "InnRoadModel", name := "leaveLetters", desc := "(II)I" } : Jvm.MethodName) ({ cls := "InnRoadModel", name := "leaveLetters", desc := "(II)I" } : Jvm.MethodName)) ∈ lw_all := lw_g (lw_at lw_m11 162 rfl) rfl
theorem q2632 : (Jvm.Cond.code ({ cls := "InnRoadModel", name := "leaveLetters", desc := "(II)I" } : Jvm.MethodName) prog_12_method_61_code (3 : Nat) (Option.some Jvm.ClassFile.FieldType.int)) ∈ lw_all := lw_g (lw_at lw_m11 163 rfl) rfl
theorem q2633 : (Jvm.Cond.constantLong "InnRoadModel" (265 : Nat) (99 : Int64)) ∈ lw_all := lw_g (lw_at lw_m11 164 rfl) rfl
theorem q2635 : (Jvm.Cond.instanceMethod ({ cls := "InnRoadModel", name := "send", desc := "(II)I" } : Jvm.MethodName)) ∈ lw_all := lw_g (lw_at lw_m11 166 rfl) rfl
theorem q2636 : (Jvm.Cond.selects "InnRoadModel" ({ cls := "InnRoadModel", name := "send", desc := "(II)I" } : Jvm.MethodName) ({ cls := "InnRoadModel", name := "send", desc := "(II)I" } : Jvm.MethodName)) ∈ lw_all := lw_g (lw_at lw_m11 167 rfl) rfl
theorem q2637 : (Jvm.Cond.code ({ cls := "InnRoadModel", name := "send", desc := "(II)I" } : Jvm.MethodName) prog_12_method_62_code (4 : Nat) (Option.some Jvm.ClassFile.FieldType.int)) ∈ lw_all := lw_g (lw_at lw_m11 168 rfl) rfl
theorem q2638 : (Jvm.Cond.methodLink "InnRoadModel" (267 : Nat) ({ cls := "InnRoadModel", name := "rides", desc := "([III)Z" } : Jvm.MethodName)) ∈ lw_all := lw_g (lw_at lw_m11 169 rfl) rfl
theorem q2639 : (Jvm.Cond.privateMethod ({ cls := "InnRoadModel", name := "rides", desc := "([III)Z" } : Jvm.MethodName)) ∈ lw_tbl := lw_at lw_m11 170 rfl
theorem q2640 : (Jvm.Cond.instanceMethod ({ cls := "InnRoadModel", name := "rides", desc := "([III)Z" } : Jvm.MethodName)) ∈ lw_all := lw_g (lw_at lw_m11 171 rfl) rfl
theorem q2641 : (Jvm.Cond.code ({ cls := "InnRoadModel", name := "rides", desc := "([III)Z" } : Jvm.MethodName) prog_12_method_24_code (6 : Nat) (Option.some Jvm.ClassFile.FieldType.boolean)) ∈ lw_all := lw_g (lw_at lw_m11 172 rfl) rfl
theorem q2642 : (Jvm.Cond.methodLink "InnRoadModel" (126 : Nat) ({ cls := "InnRoadModel", name := "canRide", desc := "([III)Z" } : Jvm.MethodName)) ∈ lw_all := lw_g (lw_at lw_m11 173 rfl) rfl
theorem q2643 : (Jvm.Cond.static ({ cls := "InnRoadModel", name := "canRide", desc := "([III)Z" } : Jvm.MethodName)) ∈ lw_all := lw_g (lw_at lw_m11 174 rfl) rfl
theorem q2644 : (Jvm.Cond.code ({ cls := "InnRoadModel", name := "canRide", desc := "([III)Z" } : Jvm.MethodName) prog_12_method_23_code (3 : Nat) (Option.some Jvm.ClassFile.FieldType.boolean)) ∈ lw_all := lw_g (lw_at lw_m11 175 rfl) rfl
theorem q2645 : (Jvm.Cond.methodLink "InnRoadModel" (110 : Nat) ({ cls := "InnRoadModel", name := "stage", desc := "([III)I" } : Jvm.MethodName)) ∈ lw_all := lw_g (lw_at lw_m11 176 rfl) rfl
theorem q2646 : (Jvm.Cond.static ({ cls := "InnRoadModel", name := "stage", desc := "([III)I" } : Jvm.MethodName)) ∈ lw_all := lw_g (lw_at lw_m11 177 rfl) rfl
theorem q2647 : (Jvm.Cond.code ({ cls := "InnRoadModel", name := "stage", desc := "([III)I" } : Jvm.MethodName) prog_12_method_22_code (3 : Nat) (Option.some Jvm.ClassFile.FieldType.int)) ∈ lw_all := lw_g (lw_at lw_m11 178 rfl) rfl
theorem q2648 : (Jvm.Cond.methodLink "InnRoadModel" (105 : Nat) ({ cls := "java/lang/Math", name := "abs", desc := "(I)I" } : Jvm.MethodName)) ∈ lw_all := lw_g (lw_at lw_m11 179 rfl) rfl
theorem q2650 : (Jvm.Cond.instanceMethod ({ cls := "InnRoadModel", name := "restore", desc := "()I" } : Jvm.MethodName)) ∈ lw_all := lw_g (lw_at lw_m11 181 rfl) rfl
theorem q2651 : (Jvm.Cond.selects "InnRoadModel" ({ cls := "InnRoadModel", name := "restore", desc := "()I" } : Jvm.MethodName) ({ cls := "InnRoadModel", name := "restore", desc := "()I" } : Jvm.MethodName)) ∈ lw_all := lw_g (lw_at lw_m11 182 rfl) rfl
theorem q2652 : (Jvm.Cond.code ({ cls := "InnRoadModel", name := "restore", desc := "()I" } : Jvm.MethodName) prog_12_method_63_code (1 : Nat) (Option.some Jvm.ClassFile.FieldType.int)) ∈ lw_all := lw_g (lw_at lw_m11 183 rfl) rfl
theorem q2654 : (Jvm.Cond.instanceMethod ({ cls := "InnRoadModel", name := "undo", desc := "()I" } : Jvm.MethodName)) ∈ lw_all := lw_g (lw_at lw_m11 185 rfl) rfl
theorem q2655 : (Jvm.Cond.selects "InnRoadModel" ({ cls := "InnRoadModel", name := "undo", desc := "()I" } : Jvm.MethodName) ({ cls := "InnRoadModel", name := "undo", desc := "()I" } : Jvm.MethodName)) ∈ lw_all := lw_g (lw_at lw_m11 186 rfl) rfl
theorem q2656 : (Jvm.Cond.code ({ cls := "InnRoadModel", name := "undo", desc := "()I" } : Jvm.MethodName) prog_12_method_64_code (1 : Nat) (Option.some Jvm.ClassFile.FieldType.int)) ∈ lw_all := lw_g (lw_at lw_m11 187 rfl) rfl
theorem q2658 : (Jvm.Cond.instanceMethod ({ cls := "InnRoadModel", name := "undoCount", desc := "()I" } : Jvm.MethodName)) ∈ lw_all := lw_g (lw_at lw_m11 189 rfl) rfl
theorem q2659 : (Jvm.Cond.selects "InnRoadModel" ({ cls := "InnRoadModel", name := "undoCount", desc := "()I" } : Jvm.MethodName) ({ cls := "InnRoadModel", name := "undoCount", desc := "()I" } : Jvm.MethodName)) ∈ lw_all := lw_g (lw_at lw_m11 190 rfl) rfl
theorem q2660 : (Jvm.Cond.code ({ cls := "InnRoadModel", name := "undoCount", desc := "()I" } : Jvm.MethodName) prog_12_method_65_code (1 : Nat) (Option.some Jvm.ClassFile.FieldType.int)) ∈ lw_all := lw_g (lw_at lw_m11 191 rfl) rfl
theorem q2662 : (Jvm.Cond.instanceMethod ({ cls := "InnRoadModel", name := "save", desc := "()I" } : Jvm.MethodName)) ∈ lw_all := lw_g (lw_at lw_m11 193 rfl) rfl
theorem q2663 : (Jvm.Cond.selects "InnRoadModel" ({ cls := "InnRoadModel", name := "save", desc := "()I" } : Jvm.MethodName) ({ cls := "InnRoadModel", name := "save", desc := "()I" } : Jvm.MethodName)) ∈ lw_all := lw_g (lw_at lw_m11 194 rfl) rfl
theorem q2664 : (Jvm.Cond.code ({ cls := "InnRoadModel", name := "save", desc := "()I" } : Jvm.MethodName) prog_12_method_66_code (1 : Nat) (Option.some Jvm.ClassFile.FieldType.int)) ∈ lw_all := lw_g (lw_at lw_m11 195 rfl) rfl
theorem q2666 : (Jvm.Cond.instanceMethod ({ cls := "InnRoadModel", name := "inns", desc := "()I" } : Jvm.MethodName)) ∈ lw_all := lw_g (lw_at lw_m11 197 rfl) rfl
theorem q2667 : (Jvm.Cond.selects "InnRoadModel" ({ cls := "InnRoadModel", name := "inns", desc := "()I" } : Jvm.MethodName) ({ cls := "InnRoadModel", name := "inns", desc := "()I" } : Jvm.MethodName)) ∈ lw_all := lw_g (lw_at lw_m11 198 rfl) rfl
theorem q2668 : (Jvm.Cond.code ({ cls := "InnRoadModel", name := "inns", desc := "()I" } : Jvm.MethodName) prog_12_method_67_code (1 : Nat) (Option.some Jvm.ClassFile.FieldType.int)) ∈ lw_all := lw_g (lw_at lw_m11 199 rfl) rfl
theorem q2670 : (Jvm.Cond.instanceMethod ({ cls := "InnRoadModel", name := "hasInn", desc := "(I)Z" } : Jvm.MethodName)) ∈ lw_all := lw_g (lw_at lw_m11 201 rfl) rfl
theorem q2671 : (Jvm.Cond.selects "InnRoadModel" ({ cls := "InnRoadModel", name := "hasInn", desc := "(I)Z" } : Jvm.MethodName) ({ cls := "InnRoadModel", name := "hasInn", desc := "(I)Z" } : Jvm.MethodName)) ∈ lw_all := lw_g (lw_at lw_m11 202 rfl) rfl
theorem q2672 : (Jvm.Cond.code ({ cls := "InnRoadModel", name := "hasInn", desc := "(I)Z" } : Jvm.MethodName) prog_12_method_68_code (2 : Nat) (Option.some Jvm.ClassFile.FieldType.boolean)) ∈ lw_all := lw_g (lw_at lw_m11 203 rfl) rfl
theorem q2674 : (Jvm.Cond.instanceMethod ({ cls := "InnRoadModel", name := "mile", desc := "(I)I" } : Jvm.MethodName)) ∈ lw_all := lw_g (lw_at lw_m11 205 rfl) rfl
theorem q2675 : (Jvm.Cond.selects "InnRoadModel" ({ cls := "InnRoadModel", name := "mile", desc := "(I)I" } : Jvm.MethodName) ({ cls := "InnRoadModel", name := "mile", desc := "(I)I" } : Jvm.MethodName)) ∈ lw_all := lw_g (lw_at lw_m11 206 rfl) rfl
theorem q2676 : (Jvm.Cond.code ({ cls := "InnRoadModel", name := "mile", desc := "(I)I" } : Jvm.MethodName) prog_12_method_70_code (2 : Nat) (Option.some Jvm.ClassFile.FieldType.int)) ∈ lw_all := lw_g (lw_at lw_m11 207 rfl) rfl
theorem q2677 : (Jvm.Cond.methodLink "InnRoadModel" (274 : Nat) ({ cls := "InnRoadModel", name := "ofInn", desc := "(II)I" } : Jvm.MethodName)) ∈ lw_all := lw_g (lw_at lw_m11 208 rfl) rfl
theorem q2678 : (Jvm.Cond.privateMethod ({ cls := "InnRoadModel", name := "ofInn", desc := "(II)I" } : Jvm.MethodName)) ∈ lw_tbl := lw_at lw_m11 209 rfl
theorem q2679 : (Jvm.Cond.instanceMethod ({ cls := "InnRoadModel", name := "ofInn", desc := "(II)I" } : Jvm.MethodName)) ∈ lw_all := lw_g (lw_at lw_m11 210 rfl) rfl
theorem q2680 : (Jvm.Cond.code ({ cls := "InnRoadModel", name := "ofInn", desc := "(II)I" } : Jvm.MethodName) prog_12_method_69_code (3 : Nat) (Option.some Jvm.ClassFile.FieldType.int)) ∈ lw_all := lw_g (lw_at lw_m11 211 rfl) rfl
theorem q2682 : (Jvm.Cond.instanceMethod ({ cls := "InnRoadModel", name := "next", desc := "(I)I" } : Jvm.MethodName)) ∈ lw_all := lw_g (lw_at lw_m11 213 rfl) rfl
theorem q2683 : (Jvm.Cond.selects "InnRoadModel" ({ cls := "InnRoadModel", name := "next", desc := "(I)I" } : Jvm.MethodName) ({ cls := "InnRoadModel", name := "next", desc := "(I)I" } : Jvm.MethodName)) ∈ lw_all := lw_g (lw_at lw_m11 214 rfl) rfl
theorem q2684 : (Jvm.Cond.code ({ cls := "InnRoadModel", name := "next", desc := "(I)I" } : Jvm.MethodName) prog_12_method_71_code (2 : Nat) (Option.some Jvm.ClassFile.FieldType.int)) ∈ lw_all := lw_g (lw_at lw_m11 215 rfl) rfl
theorem q2686 : (Jvm.Cond.instanceMethod ({ cls := "InnRoadModel", name := "skip", desc := "(I)I" } : Jvm.MethodName)) ∈ lw_all := lw_g (lw_at lw_m11 217 rfl) rfl
theorem q2687 : (Jvm.Cond.selects "InnRoadModel" ({ cls := "InnRoadModel", name := "skip", desc := "(I)I" } : Jvm.MethodName) ({ cls := "InnRoadModel", name := "skip", desc := "(I)I" } : Jvm.MethodName)) ∈ lw_all := lw_g (lw_at lw_m11 218 rfl) rfl
theorem q2688 : (Jvm.Cond.code ({ cls := "InnRoadModel", name := "skip", desc := "(I)I" } : Jvm.MethodName) prog_12_method_72_code (2 : Nat) (Option.some Jvm.ClassFile.FieldType.int)) ∈ lw_all := lw_g (lw_at lw_m11 219 rfl) rfl
theorem q2690 : (Jvm.Cond.instanceMethod ({ cls := "InnRoadModel", name := "isOpen", desc := "(I)Z" } : Jvm.MethodName)) ∈ lw_all := lw_g (lw_at lw_m11 221 rfl) rfl
theorem q2691 : (Jvm.Cond.selects "InnRoadModel" ({ cls := "InnRoadModel", name := "isOpen", desc := "(I)Z" } : Jvm.MethodName) ({ cls := "InnRoadModel", name := "isOpen", desc := "(I)Z" } : Jvm.MethodName)) ∈ lw_all := lw_g (lw_at lw_m11 222 rfl) rfl
theorem q2692 : (Jvm.Cond.code ({ cls := "InnRoadModel", name := "isOpen", desc := "(I)Z" } : Jvm.MethodName) prog_12_method_73_code (2 : Nat) (Option.some Jvm.ClassFile.FieldType.boolean)) ∈ lw_all := lw_g (lw_at lw_m11 223 rfl) rfl
theorem q2694 : (Jvm.Cond.instanceMethod ({ cls := "InnRoadModel", name := "letters", desc := "(I)I" } : Jvm.MethodName)) ∈ lw_all := lw_g (lw_at lw_m11 225 rfl) rfl
theorem q2695 : (Jvm.Cond.selects "InnRoadModel" ({ cls := "InnRoadModel", name := "letters", desc := "(I)I" } : Jvm.MethodName) ({ cls := "InnRoadModel", name := "letters", desc := "(I)I" } : Jvm.MethodName)) ∈ lw_all := lw_g (lw_at lw_m11 226 rfl) rfl
theorem q2696 : (Jvm.Cond.code ({ cls := "InnRoadModel", name := "letters", desc := "(I)I" } : Jvm.MethodName) prog_12_method_74_code (2 : Nat) (Option.some Jvm.ClassFile.FieldType.int)) ∈ lw_all := lw_g (lw_at lw_m11 227 rfl) rfl
theorem q2698 : (Jvm.Cond.instanceMethod ({ cls := "InnRoadModel", name := "first", desc := "()I" } : Jvm.MethodName)) ∈ lw_all := lw_g (lw_at lw_m11 229 rfl) rfl
theorem q2699 : (Jvm.Cond.selects "InnRoadModel" ({ cls := "InnRoadModel", name := "first", desc := "()I" } : Jvm.MethodName) ({ cls := "InnRoadModel", name := "first", desc := "()I" } : Jvm.MethodName)) ∈ lw_all := lw_g (lw_at lw_m11 230 rfl) rfl
theorem q2700 : (Jvm.Cond.code ({ cls := "InnRoadModel", name := "first", desc := "()I" } : Jvm.MethodName) prog_12_method_75_code (1 : Nat) (Option.some Jvm.ClassFile.FieldType.int)) ∈ lw_all := lw_g (lw_at lw_m11 231 rfl) rfl
theorem q2702 : (Jvm.Cond.instanceMethod ({ cls := "InnRoadModel", name := "second", desc := "()I" } : Jvm.MethodName)) ∈ lw_all := lw_g (lw_at lw_m11 233 rfl) rfl
theorem q2703 : (Jvm.Cond.selects "InnRoadModel" ({ cls := "InnRoadModel", name := "second", desc := "()I" } : Jvm.MethodName) ({ cls := "InnRoadModel", name := "second", desc := "()I" } : Jvm.MethodName)) ∈ lw_all := lw_g (lw_at lw_m11 234 rfl) rfl
theorem q2704 : (Jvm.Cond.code ({ cls := "InnRoadModel", name := "second", desc := "()I" } : Jvm.MethodName) prog_12_method_76_code (1 : Nat) (Option.some Jvm.ClassFile.FieldType.int)) ∈ lw_all := lw_g (lw_at lw_m11 235 rfl) rfl
theorem q2706 : (Jvm.Cond.instanceMethod ({ cls := "InnRoadModel", name := "storedCount", desc := "()I" } : Jvm.MethodName)) ∈ lw_all := lw_g (lw_at lw_m11 237 rfl) rfl
theorem q2707 : (Jvm.Cond.selects "InnRoadModel" ({ cls := "InnRoadModel", name := "storedCount", desc := "()I" } : Jvm.MethodName) ({ cls := "InnRoadModel", name := "storedCount", desc := "()I" } : Jvm.MethodName)) ∈ lw_all := lw_g (lw_at lw_m11 238 rfl) rfl
theorem q2708 : (Jvm.Cond.code ({ cls := "InnRoadModel", name := "storedCount", desc := "()I" } : Jvm.MethodName) prog_12_method_77_code (1 : Nat) (Option.some Jvm.ClassFile.FieldType.int)) ∈ lw_all := lw_g (lw_at lw_m11 239 rfl) rfl
theorem q2710 : (Jvm.Cond.instanceMethod ({ cls := "InnRoadModel", name := "range", desc := "()I" } : Jvm.MethodName)) ∈ lw_all := lw_g (lw_at lw_m12 1 rfl) rfl
theorem q2711 : (Jvm.Cond.selects "InnRoadModel" ({ cls := "InnRoadModel", name := "range", desc := "()I" } : Jvm.MethodName) ({ cls := "InnRoadModel", name := "range", desc := "()I" } : Jvm.MethodName)) ∈ lw_all := lw_g (lw_at lw_m12 2 rfl) rfl
theorem q2712 : (Jvm.Cond.code ({ cls := "InnRoadModel", name := "range", desc := "()I" } : Jvm.MethodName) prog_12_method_78_code (1 : Nat) (Option.some Jvm.ClassFile.FieldType.int)) ∈ lw_all := lw_g (lw_at lw_m12 3 rfl) rfl
theorem q2714 : (Jvm.Cond.instanceMethod ({ cls := "InnRoadModel", name := "openInns", desc := "()I" } : Jvm.MethodName)) ∈ lw_all := lw_g (lw_at lw_m12 5 rfl) rfl
theorem q2715 : (Jvm.Cond.selects "InnRoadModel" ({ cls := "InnRoadModel", name := "openInns", desc := "()I" } : Jvm.MethodName) ({ cls := "InnRoadModel", name := "openInns", desc := "()I" } : Jvm.MethodName)) ∈ lw_all := lw_g (lw_at lw_m12 6 rfl) rfl
theorem q2716 : (Jvm.Cond.code ({ cls := "InnRoadModel", name := "openInns", desc := "()I" } : Jvm.MethodName) prog_12_method_80_code (1 : Nat) (Option.some Jvm.ClassFile.FieldType.int)) ∈ lw_all := lw_g (lw_at lw_m12 7 rfl) rfl
theorem q2717 : (Jvm.Cond.methodLink "InnRoadModel" (277 : Nat) ({ cls := "InnRoadModel", name := "openOnes", desc := "()I" } : Jvm.MethodName)) ∈ lw_all := lw_g (lw_at lw_m12 8 rfl) rfl
theorem q2718 : (Jvm.Cond.privateMethod ({ cls := "InnRoadModel", name := "openOnes", desc := "()I" } : Jvm.MethodName)) ∈ lw_tbl := lw_at lw_m12 9 rfl
theorem q2719 : (Jvm.Cond.instanceMethod ({ cls := "InnRoadModel", name := "openOnes", desc := "()I" } : Jvm.MethodName)) ∈ lw_all := lw_g (lw_at lw_m12 10 rfl) rfl
theorem q2720 : (Jvm.Cond.code ({ cls := "InnRoadModel", name := "openOnes", desc := "()I" } : Jvm.MethodName) prog_12_method_79_code (3 : Nat) (Option.some Jvm.ClassFile.FieldType.int)) ∈ lw_all := lw_g (lw_at lw_m12 11 rfl) rfl
theorem q2722 : (Jvm.Cond.instanceMethod ({ cls := "InnRoadModel", name := "innAtMile", desc := "(I)I" } : Jvm.MethodName)) ∈ lw_all := lw_g (lw_at lw_m12 13 rfl) rfl
theorem q2723 : (Jvm.Cond.selects "InnRoadModel" ({ cls := "InnRoadModel", name := "innAtMile", desc := "(I)I" } : Jvm.MethodName) ({ cls := "InnRoadModel", name := "innAtMile", desc := "(I)I" } : Jvm.MethodName)) ∈ lw_all := lw_g (lw_at lw_m12 14 rfl) rfl
theorem q2724 : (Jvm.Cond.code ({ cls := "InnRoadModel", name := "innAtMile", desc := "(I)I" } : Jvm.MethodName) prog_12_method_81_code (2 : Nat) (Option.some Jvm.ClassFile.FieldType.int)) ∈ lw_all := lw_g (lw_at lw_m12 15 rfl) rfl
theorem q2726 : (Jvm.Cond.instanceMethod ({ cls := "InnRoadModel", name := "totalLetters", desc := "()I" } : Jvm.MethodName)) ∈ lw_all := lw_g (lw_at lw_m12 17 rfl) rfl
theorem q2727 : (Jvm.Cond.selects "InnRoadModel" ({ cls := "InnRoadModel", name := "totalLetters", desc := "()I" } : Jvm.MethodName) ({ cls := "InnRoadModel", name := "totalLetters", desc := "()I" } : Jvm.MethodName)) ∈ lw_all := lw_g (lw_at lw_m12 18 rfl) rfl
theorem q2728 : (Jvm.Cond.code ({ cls := "InnRoadModel", name := "totalLetters", desc := "()I" } : Jvm.MethodName) prog_12_method_82_code (3 : Nat) (Option.some Jvm.ClassFile.FieldType.int)) ∈ lw_all := lw_g (lw_at lw_m12 19 rfl) rfl
theorem q2730 : (Jvm.Cond.instanceMethod ({ cls := "InnRoadModel", name := "stagesRidden", desc := "()I" } : Jvm.MethodName)) ∈ lw_all := lw_g (lw_at lw_m12 21 rfl) rfl
theorem q2731 : (Jvm.Cond.selects "InnRoadModel" ({ cls := "InnRoadModel", name := "stagesRidden", desc := "()I" } : Jvm.MethodName) ({ cls := "InnRoadModel", name := "stagesRidden", desc := "()I" } : Jvm.MethodName)) ∈ lw_all := lw_g (lw_at lw_m12 22 rfl) rfl
theorem q2732 : (Jvm.Cond.code ({ cls := "InnRoadModel", name := "stagesRidden", desc := "()I" } : Jvm.MethodName) prog_12_method_83_code (1 : Nat) (Option.some Jvm.ClassFile.FieldType.int)) ∈ lw_all := lw_g (lw_at lw_m12 23 rfl) rfl
theorem q2734 : (Jvm.Cond.instanceMethod ({ cls := "InnRoadModel", name := "lettersDelivered", desc := "()I" } : Jvm.MethodName)) ∈ lw_all := lw_g (lw_at lw_m12 25 rfl) rfl
theorem q2735 : (Jvm.Cond.selects "InnRoadModel" ({ cls := "InnRoadModel", name := "lettersDelivered", desc := "()I" } : Jvm.MethodName) ({ cls := "InnRoadModel", name := "lettersDelivered", desc := "()I" } : Jvm.MethodName)) ∈ lw_all := lw_g (lw_at lw_m12 26 rfl) rfl
theorem q2736 : (Jvm.Cond.code ({ cls := "InnRoadModel", name := "lettersDelivered", desc := "()I" } : Jvm.MethodName) prog_12_method_84_code (1 : Nat) (Option.some Jvm.ClassFile.FieldType.int)) ∈ lw_all := lw_g (lw_at lw_m12 27 rfl) rfl
theorem q2738 : (Jvm.Cond.instanceMethod ({ cls := "InnRoadModel", name := "meanGap", desc := "()D" } : Jvm.MethodName)) ∈ lw_all := lw_g (lw_at lw_m12 29 rfl) rfl
theorem q2739 : (Jvm.Cond.selects "InnRoadModel" ({ cls := "InnRoadModel", name := "meanGap", desc := "()D" } : Jvm.MethodName) ({ cls := "InnRoadModel", name := "meanGap", desc := "()D" } : Jvm.MethodName)) ∈ lw_all := lw_g (lw_at lw_m12 30 rfl) rfl
theorem q2740 : (Jvm.Cond.code ({ cls := "InnRoadModel", name := "meanGap", desc := "()D" } : Jvm.MethodName) prog_12_method_85_code (4 : Nat) (Option.some Jvm.ClassFile.FieldType.double)) ∈ lw_all := lw_g (lw_at lw_m12 31 rfl) rfl
theorem q2741 : (Jvm.Cond.methodLink "InnRoadModel" (280 : Nat) ({ cls := "java/lang/Math", name := "min", desc := "(II)I" } : Jvm.MethodName)) ∈ lw_all := lw_g (lw_at lw_m12 32 rfl) rfl
theorem q2742 : (Jvm.Cond.methodLink "InnRoadModel" (283 : Nat) ({ cls := "java/lang/Math", name := "max", desc := "(II)I" } : Jvm.MethodName)) ∈ lw_all := lw_g (lw_at lw_m12 33 rfl) rfl
theorem q2744 : (Jvm.Cond.instanceMethod ({ cls := "InnRoadModel", name := "openShare", desc := "()F" } : Jvm.MethodName)) ∈ lw_all := lw_g (lw_at lw_m12 35 rfl) rfl
theorem q2745 : (Jvm.Cond.selects "InnRoadModel" ({ cls := "InnRoadModel", name := "openShare", desc := "()F" } : Jvm.MethodName) ({ cls := "InnRoadModel", name := "openShare", desc := "()F" } : Jvm.MethodName)) ∈ lw_all := lw_g (lw_at lw_m12 36 rfl) rfl
theorem q2746 : (Jvm.Cond.code ({ cls := "InnRoadModel", name := "openShare", desc := "()F" } : Jvm.MethodName) prog_12_method_86_code (1 : Nat) (Option.some Jvm.ClassFile.FieldType.float)) ∈ lw_all := lw_g (lw_at lw_m12 37 rfl) rfl
theorem q2748 : (Jvm.Cond.instanceMethod ({ cls := "InnRoadModel", name := "isConsistent", desc := "()Z" } : Jvm.MethodName)) ∈ lw_all := lw_g (lw_at lw_m12 39 rfl) rfl
theorem q2749 : (Jvm.Cond.selects "InnRoadModel" ({ cls := "InnRoadModel", name := "isConsistent", desc := "()Z" } : Jvm.MethodName) ({ cls := "InnRoadModel", name := "isConsistent", desc := "()Z" } : Jvm.MethodName)) ∈ lw_all := lw_g (lw_at lw_m12 40 rfl) rfl
theorem q2750 : (Jvm.Cond.code ({ cls := "InnRoadModel", name := "isConsistent", desc := "()Z" } : Jvm.MethodName) prog_12_method_87_code (1 : Nat) (Option.some Jvm.ClassFile.FieldType.boolean)) ∈ lw_all := lw_g (lw_at lw_m12 41 rfl) rfl
theorem q2752 : (Jvm.Cond.instanceMethod ({ cls := "InnRoadModel", name := "chainLength", desc := "()I" } : Jvm.MethodName)) ∈ lw_all := lw_g (lw_at lw_m12 43 rfl) rfl
theorem q2753 : (Jvm.Cond.selects "InnRoadModel" ({ cls := "InnRoadModel", name := "chainLength", desc := "()I" } : Jvm.MethodName) ({ cls := "InnRoadModel", name := "chainLength", desc := "()I" } : Jvm.MethodName)) ∈ lw_all := lw_g (lw_at lw_m12 44 rfl) rfl
theorem q2754 : (Jvm.Cond.code ({ cls := "InnRoadModel", name := "chainLength", desc := "()I" } : Jvm.MethodName) prog_12_method_88_code (1 : Nat) (Option.some Jvm.ClassFile.FieldType.int)) ∈ lw_all := lw_g (lw_at lw_m12 45 rfl) rfl
theorem q2756 : (Jvm.Cond.instanceMethod ({ cls := "InnRoadModel", name := "chainInn", desc := "(I)I" } : Jvm.MethodName)) ∈ lw_all := lw_g (lw_at lw_m12 47 rfl) rfl
theorem q2757 : (Jvm.Cond.selects "InnRoadModel" ({ cls := "InnRoadModel", name := "chainInn", desc := "(I)I" } : Jvm.MethodName) ({ cls := "InnRoadModel", name := "chainInn", desc := "(I)I" } : Jvm.MethodName)) ∈ lw_all := lw_g (lw_at lw_m12 48 rfl) rfl
theorem q2758 : (Jvm.Cond.code ({ cls := "InnRoadModel", name := "chainInn", desc := "(I)I" } : Jvm.MethodName) prog_12_method_89_code (2 : Nat) (Option.some Jvm.ClassFile.FieldType.int)) ∈ lw_all := lw_g (lw_at lw_m12 49 rfl) rfl
theorem q2760 : (Jvm.Cond.instanceMethod ({ cls := "InnRoadModel", name := "position", desc := "(I)I" } : Jvm.MethodName)) ∈ lw_all := lw_g (lw_at lw_m12 51 rfl) rfl
theorem q2761 : (Jvm.Cond.selects "InnRoadModel" ({ cls := "InnRoadModel", name := "position", desc := "(I)I" } : Jvm.MethodName) ({ cls := "InnRoadModel", name := "position", desc := "(I)I" } : Jvm.MethodName)) ∈ lw_all := lw_g (lw_at lw_m12 52 rfl) rfl
theorem q2762 : (Jvm.Cond.code ({ cls := "InnRoadModel", name := "position", desc := "(I)I" } : Jvm.MethodName) prog_12_method_90_code (2 : Nat) (Option.some Jvm.ClassFile.FieldType.int)) ∈ lw_all := lw_g (lw_at lw_m12 53 rfl) rfl
theorem q2764 : (Jvm.Cond.instanceMethod ({ cls := "InnRoadModel", name := "hasCycle", desc := "()Z" } : Jvm.MethodName)) ∈ lw_all := lw_g (lw_at lw_m12 55 rfl) rfl
theorem q2765 : (Jvm.Cond.selects "InnRoadModel" ({ cls := "InnRoadModel", name := "hasCycle", desc := "()Z" } : Jvm.MethodName) ({ cls := "InnRoadModel", name := "hasCycle", desc := "()Z" } : Jvm.MethodName)) ∈ lw_all := lw_g (lw_at lw_m12 56 rfl) rfl
theorem q2766 : (Jvm.Cond.code ({ cls := "InnRoadModel", name := "hasCycle", desc := "()Z" } : Jvm.MethodName) prog_12_method_91_code (1 : Nat) (Option.some Jvm.ClassFile.FieldType.boolean)) ∈ lw_all := lw_g (lw_at lw_m12 57 rfl) rfl
theorem q2768 : (Jvm.Cond.instanceMethod ({ cls := "InnRoadModel", name := "danglingPointers", desc := "()I" } : Jvm.MethodName)) ∈ lw_all := lw_g (lw_at lw_m12 59 rfl) rfl
theorem q2769 : (Jvm.Cond.selects "InnRoadModel" ({ cls := "InnRoadModel", name := "danglingPointers", desc := "()I" } : Jvm.MethodName) ({ cls := "InnRoadModel", name := "danglingPointers", desc := "()I" } : Jvm.MethodName)) ∈ lw_all := lw_g (lw_at lw_m12 60 rfl) rfl
theorem q2770 : (Jvm.Cond.code ({ cls := "InnRoadModel", name := "danglingPointers", desc := "()I" } : Jvm.MethodName) prog_12_method_93_code (3 : Nat) (Option.some Jvm.ClassFile.FieldType.int)) ∈ lw_all := lw_g (lw_at lw_m12 61 rfl) rfl
theorem q2771 : (Jvm.Cond.methodLink "InnRoadModel" (286 : Nat) ({ cls := "InnRoadModel", name := "dangles", desc := "(I)I" } : Jvm.MethodName)) ∈ lw_all := lw_g (lw_at lw_m12 62 rfl) rfl
theorem q2772 : (Jvm.Cond.privateMethod ({ cls := "InnRoadModel", name := "dangles", desc := "(I)I" } : Jvm.MethodName)) ∈ lw_tbl := lw_at lw_m12 63 rfl
theorem q2773 : (Jvm.Cond.instanceMethod ({ cls := "InnRoadModel", name := "dangles", desc := "(I)I" } : Jvm.MethodName)) ∈ lw_all := lw_g (lw_at lw_m12 64 rfl) rfl
theorem q2774 : (Jvm.Cond.code ({ cls := "InnRoadModel", name := "dangles", desc := "(I)I" } : Jvm.MethodName) prog_12_method_92_code (2 : Nat) (Option.some Jvm.ClassFile.FieldType.int)) ∈ lw_all := lw_g (lw_at lw_m12 65 rfl) rfl
theorem q2776 : (Jvm.Cond.instanceMethod ({ cls := "InnRoadModel", name := "wrongValues", desc := "()I" } : Jvm.MethodName)) ∈ lw_all := lw_g (lw_at lw_m12 67 rfl) rfl
theorem q2777 : (Jvm.Cond.selects "InnRoadModel" ({ cls := "InnRoadModel", name := "wrongValues", desc := "()I" } : Jvm.MethodName) ({ cls := "InnRoadModel", name := "wrongValues", desc := "()I" } : Jvm.MethodName)) ∈ lw_all := lw_g (lw_at lw_m12 68 rfl) rfl
theorem q2778 : (Jvm.Cond.code ({ cls := "InnRoadModel", name := "wrongValues", desc := "()I" } : Jvm.MethodName) prog_12_method_94_code (1 : Nat) (Option.some Jvm.ClassFile.FieldType.int)) ∈ lw_all := lw_g (lw_at lw_m12 69 rfl) rfl
theorem q2780 : (Jvm.Cond.instanceMethod ({ cls := "InnRoadModel", name := "descents", desc := "()I" } : Jvm.MethodName)) ∈ lw_all := lw_g (lw_at lw_m12 71 rfl) rfl
theorem q2781 : (Jvm.Cond.selects "InnRoadModel" ({ cls := "InnRoadModel", name := "descents", desc := "()I" } : Jvm.MethodName) ({ cls := "InnRoadModel", name := "descents", desc := "()I" } : Jvm.MethodName)) ∈ lw_all := lw_g (lw_at lw_m12 72 rfl) rfl
theorem q2782 : (Jvm.Cond.code ({ cls := "InnRoadModel", name := "descents", desc := "()I" } : Jvm.MethodName) prog_12_method_95_code (3 : Nat) (Option.some Jvm.ClassFile.FieldType.int)) ∈ lw_all := lw_g (lw_at lw_m12 73 rfl) rfl
theorem q2784 : (Jvm.Cond.instanceMethod ({ cls := "InnRoadModel", name := "hasSingleFault", desc := "()Z" } : Jvm.MethodName)) ∈ lw_all := lw_g (lw_at lw_m12 75 rfl) rfl
theorem q2785 : (Jvm.Cond.selects "InnRoadModel" ({ cls := "InnRoadModel", name := "hasSingleFault", desc := "()Z" } : Jvm.MethodName) ({ cls := "InnRoadModel", name := "hasSingleFault", desc := "()Z" } : Jvm.MethodName)) ∈ lw_all := lw_g (lw_at lw_m12 76 rfl) rfl
theorem q2786 : (Jvm.Cond.code ({ cls := "InnRoadModel", name := "hasSingleFault", desc := "()Z" } : Jvm.MethodName) prog_12_method_96_code (1 : Nat) (Option.some Jvm.ClassFile.FieldType.boolean)) ∈ lw_all := lw_g (lw_at lw_m12 77 rfl) rfl
theorem q2788 : (Jvm.Cond.instanceMethod ({ cls := "InnRoadModel", name := "faultyInn", desc := "()I" } : Jvm.MethodName)) ∈ lw_all := lw_g (lw_at lw_m12 79 rfl) rfl
theorem q2789 : (Jvm.Cond.selects "InnRoadModel" ({ cls := "InnRoadModel", name := "faultyInn", desc := "()I" } : Jvm.MethodName) ({ cls := "InnRoadModel", name := "faultyInn", desc := "()I" } : Jvm.MethodName)) ∈ lw_all := lw_g (lw_at lw_m12 80 rfl) rfl
theorem q2790 : (Jvm.Cond.code ({ cls := "InnRoadModel", name := "faultyInn", desc := "()I" } : Jvm.MethodName) prog_12_method_97_code (2 : Nat) (Option.some Jvm.ClassFile.FieldType.int)) ∈ lw_all := lw_g (lw_at lw_m12 81 rfl) rfl
theorem q2792 : (Jvm.Cond.instanceMethod ({ cls := "InnRoadModel", name := "isReachable", desc := "(II)Z" } : Jvm.MethodName)) ∈ lw_all := lw_g (lw_at lw_m12 83 rfl) rfl
theorem q2793 : (Jvm.Cond.selects "InnRoadModel" ({ cls := "InnRoadModel", name := "isReachable", desc := "(II)Z" } : Jvm.MethodName) ({ cls := "InnRoadModel", name := "isReachable", desc := "(II)Z" } : Jvm.MethodName)) ∈ lw_all := lw_g (lw_at lw_m12 84 rfl) rfl
theorem q2794 : (Jvm.Cond.code ({ cls := "InnRoadModel", name := "isReachable", desc := "(II)Z" } : Jvm.MethodName) prog_12_method_99_code (3 : Nat) (Option.some Jvm.ClassFile.FieldType.boolean)) ∈ lw_all := lw_g (lw_at lw_m12 85 rfl) rfl
theorem q2795 : (Jvm.Cond.methodLink "InnRoadModel" (289 : Nat) ({ cls := "InnRoadModel", name := "areInns", desc := "(II)Z" } : Jvm.MethodName)) ∈ lw_all := lw_g (lw_at lw_m12 86 rfl) rfl
theorem q2796 : (Jvm.Cond.privateMethod ({ cls := "InnRoadModel", name := "areInns", desc := "(II)Z" } : Jvm.MethodName)) ∈ lw_tbl := lw_at lw_m12 87 rfl
theorem q2797 : (Jvm.Cond.instanceMethod ({ cls := "InnRoadModel", name := "areInns", desc := "(II)Z" } : Jvm.MethodName)) ∈ lw_all := lw_g (lw_at lw_m12 88 rfl) rfl
theorem q2798 : (Jvm.Cond.code ({ cls := "InnRoadModel", name := "areInns", desc := "(II)Z" } : Jvm.MethodName) prog_12_method_98_code (3 : Nat) (Option.some Jvm.ClassFile.FieldType.boolean)) ∈ lw_all := lw_g (lw_at lw_m12 89 rfl) rfl
theorem q2800 : (Jvm.Cond.instanceMethod ({ cls := "InnRoadModel", name := "stages", desc := "(II)I" } : Jvm.MethodName)) ∈ lw_all := lw_g (lw_at lw_m12 91 rfl) rfl
theorem q2801 : (Jvm.Cond.selects "InnRoadModel" ({ cls := "InnRoadModel", name := "stages", desc := "(II)I" } : Jvm.MethodName) ({ cls := "InnRoadModel", name := "stages", desc := "(II)I" } : Jvm.MethodName)) ∈ lw_all := lw_g (lw_at lw_m12 92 rfl) rfl
theorem q2802 : (Jvm.Cond.code ({ cls := "InnRoadModel", name := "stages", desc := "(II)I" } : Jvm.MethodName) prog_12_method_100_code (3 : Nat) (Option.some Jvm.ClassFile.FieldType.int)) ∈ lw_all := lw_g (lw_at lw_m12 93 rfl) rfl
theorem q2804 : (Jvm.Cond.instanceMethod ({ cls := "InnRoadModel", name := "rideLength", desc := "(II)I" } : Jvm.MethodName)) ∈ lw_all := lw_g (lw_at lw_m12 95 rfl) rfl
theorem q2805 : (Jvm.Cond.selects "InnRoadModel" ({ cls := "InnRoadModel", name := "rideLength", desc := "(II)I" } : Jvm.MethodName) ({ cls := "InnRoadModel", name := "rideLength", desc := "(II)I" } : Jvm.MethodName)) ∈ lw_all := lw_g (lw_at lw_m12 96 rfl) rfl
theorem q2806 : (Jvm.Cond.code ({ cls := "InnRoadModel", name := "rideLength", desc := "(II)I" } : Jvm.MethodName) prog_12_method_101_code (3 : Nat) (Option.some Jvm.ClassFile.FieldType.int)) ∈ lw_all := lw_g (lw_at lw_m12 97 rfl) rfl
theorem q2808 : (Jvm.Cond.instanceMethod ({ cls := "InnRoadModel", name := "stuckAt", desc := "(II)I" } : Jvm.MethodName)) ∈ lw_all := lw_g (lw_at lw_m12 99 rfl) rfl
theorem q2809 : (Jvm.Cond.selects "InnRoadModel" ({ cls := "InnRoadModel", name := "stuckAt", desc := "(II)I" } : Jvm.MethodName) ({ cls := "InnRoadModel", name := "stuckAt", desc := "(II)I" } : Jvm.MethodName)) ∈ lw_all := lw_g (lw_at lw_m12 100 rfl) rfl
theorem q2810 : (Jvm.Cond.code ({ cls := "InnRoadModel", name := "stuckAt", desc := "(II)I" } : Jvm.MethodName) prog_12_method_102_code (3 : Nat) (Option.some Jvm.ClassFile.FieldType.int)) ∈ lw_all := lw_g (lw_at lw_m12 101 rfl) rfl
theorem q2812 : (Jvm.Cond.instanceMethod ({ cls := "InnRoadModel", name := "neededInns", desc := "(II)I" } : Jvm.MethodName)) ∈ lw_all := lw_g (lw_at lw_m12 103 rfl) rfl
theorem q2813 : (Jvm.Cond.selects "InnRoadModel" ({ cls := "InnRoadModel", name := "neededInns", desc := "(II)I" } : Jvm.MethodName) ({ cls := "InnRoadModel", name := "neededInns", desc := "(II)I" } : Jvm.MethodName)) ∈ lw_all := lw_g (lw_at lw_m12 104 rfl) rfl
theorem q2814 : (Jvm.Cond.code ({ cls := "InnRoadModel", name := "neededInns", desc := "(II)I" } : Jvm.MethodName) prog_12_method_103_code (5 : Nat) (Option.some Jvm.ClassFile.FieldType.int)) ∈ lw_all := lw_g (lw_at lw_m12 105 rfl) rfl
theorem q2816 : (Jvm.Cond.instanceMethod ({ cls := "InnRoadModel", name := "leastRange", desc := "(II)I" } : Jvm.MethodName)) ∈ lw_all := lw_g (lw_at lw_m12 107 rfl) rfl
theorem q2817 : (Jvm.Cond.selects "InnRoadModel" ({ cls := "InnRoadModel", name := "leastRange", desc := "(II)I" } : Jvm.MethodName) ({ cls := "InnRoadModel", name := "leastRange", desc := "(II)I" } : Jvm.MethodName)) ∈ lw_all := lw_g (lw_at lw_m12 108 rfl) rfl
theorem q2818 : (Jvm.Cond.code ({ cls := "InnRoadModel", name := "leastRange", desc := "(II)I" } : Jvm.MethodName) prog_12_method_104_code (4 : Nat) (Option.some Jvm.ClassFile.FieldType.int)) ∈ lw_all := lw_g (lw_at lw_m12 109 rfl) rfl
theorem q2820 : (Jvm.Cond.instanceMethod ({ cls := "InnRoadModel", name := "helpfulOpening", desc := "(II)I" } : Jvm.MethodName)) ∈ lw_all := lw_g (lw_at lw_m12 111 rfl) rfl
theorem q2821 : (Jvm.Cond.selects "InnRoadModel" ({ cls := "InnRoadModel", name := "helpfulOpening", desc := "(II)I" } : Jvm.MethodName) ({ cls := "InnRoadModel", name := "helpfulOpening", desc := "(II)I" } : Jvm.MethodName)) ∈ lw_all := lw_g (lw_at lw_m12 112 rfl) rfl
theorem q2822 : (Jvm.Cond.code ({ cls := "InnRoadModel", name := "helpfulOpening", desc := "(II)I" } : Jvm.MethodName) prog_12_method_105_code (4 : Nat) (Option.some Jvm.ClassFile.FieldType.int)) ∈ lw_all := lw_g (lw_at lw_m12 113 rfl) rfl
theorem q2824 : (Jvm.Cond.instanceMethod ({ cls := "InnRoadModel", name := "reachableInns", desc := "(I)I" } : Jvm.MethodName)) ∈ lw_all := lw_g (lw_at lw_m12 115 rfl) rfl
theorem q2825 : (Jvm.Cond.selects "InnRoadModel" ({ cls := "InnRoadModel", name := "reachableInns", desc := "(I)I" } : Jvm.MethodName) ({ cls := "InnRoadModel", name := "reachableInns", desc := "(I)I" } : Jvm.MethodName)) ∈ lw_all := lw_g (lw_at lw_m12 116 rfl) rfl
theorem q2826 : (Jvm.Cond.code ({ cls := "InnRoadModel", name := "reachableInns", desc := "(I)I" } : Jvm.MethodName) prog_12_method_106_code (4 : Nat) (Option.some Jvm.ClassFile.FieldType.int)) ∈ lw_all := lw_g (lw_at lw_m12 117 rfl) rfl
theorem q2828 : (Jvm.Cond.instanceMethod ({ cls := "InnRoadModel", name := "skippingStages", desc := "(II)I" } : Jvm.MethodName)) ∈ lw_all := lw_g (lw_at lw_m12 119 rfl) rfl
theorem q2829 : (Jvm.Cond.selects "InnRoadModel" ({ cls := "InnRoadModel", name := "skippingStages", desc := "(II)I" } : Jvm.MethodName) ({ cls := "InnRoadModel", name := "skippingStages", desc := "(II)I" } : Jvm.MethodName)) ∈ lw_all := lw_g (lw_at lw_m12 120 rfl) rfl
theorem q2830 : (Jvm.Cond.code ({ cls := "InnRoadModel", name := "skippingStages", desc := "(II)I" } : Jvm.MethodName) prog_12_method_107_code (3 : Nat) (Option.some Jvm.ClassFile.FieldType.int)) ∈ lw_all := lw_g (lw_at lw_m12 121 rfl) rfl
theorem q2832 : (Jvm.Cond.instanceMethod ({ cls := "InnRoadModel", name := "nearestOpenInn", desc := "(I)I" } : Jvm.MethodName)) ∈ lw_all := lw_g (lw_at lw_m12 123 rfl) rfl
theorem q2833 : (Jvm.Cond.selects "InnRoadModel" ({ cls := "InnRoadModel", name := "nearestOpenInn", desc := "(I)I" } : Jvm.MethodName) ({ cls := "InnRoadModel", name := "nearestOpenInn", desc := "(I)I" } : Jvm.MethodName)) ∈ lw_all := lw_g (lw_at lw_m12 124 rfl) rfl
theorem q2834 : (Jvm.Cond.code ({ cls := "InnRoadModel", name := "nearestOpenInn", desc := "(I)I" } : Jvm.MethodName) prog_12_method_108_code (5 : Nat) (Option.some Jvm.ClassFile.FieldType.int)) ∈ lw_all := lw_g (lw_at lw_m12 125 rfl) rfl
theorem q2836 : (Jvm.Cond.instanceMethod ({ cls := "InnRoadModel", name := "write", desc := "()I" } : Jvm.MethodName)) ∈ lw_all := lw_g (lw_at lw_m12 127 rfl) rfl
theorem q2837 : (Jvm.Cond.selects "InnRoadModel" ({ cls := "InnRoadModel", name := "write", desc := "()I" } : Jvm.MethodName) ({ cls := "InnRoadModel", name := "write", desc := "()I" } : Jvm.MethodName)) ∈ lw_all := lw_g (lw_at lw_m12 128 rfl) rfl
theorem q2838 : (Jvm.Cond.code ({ cls := "InnRoadModel", name := "write", desc := "()I" } : Jvm.MethodName) prog_12_method_117_code (2 : Nat) (Option.some Jvm.ClassFile.FieldType.int)) ∈ lw_all := lw_g (lw_at lw_m12 129 rfl) rfl
theorem q2839 : (Jvm.Cond.methodLink "InnRoadModel" (303 : Nat) ({ cls := "InnRoadModel", name := "writes", desc := "(Ljava/lang/String;)V" } : Jvm.MethodName)) ∈ lw_all := lw_g (lw_at lw_m12 130 rfl) rfl
theorem q2840 : (Jvm.Cond.privateMethod ({ cls := "InnRoadModel", name := "writes", desc := "(Ljava/lang/String;)V" } : Jvm.MethodName)) ∈ lw_tbl := lw_at lw_m12 131 rfl
theorem q2841 : (Jvm.Cond.instanceMethod ({ cls := "InnRoadModel", name := "writes", desc := "(Ljava/lang/String;)V" } : Jvm.MethodName)) ∈ lw_all := lw_g (lw_at lw_m12 132 rfl) rfl
theorem q2842 : (Jvm.Cond.code ({ cls := "InnRoadModel", name := "writes", desc := "(Ljava/lang/String;)V" } : Jvm.MethodName) prog_12_method_110_code (3 : Nat) (Option.none : Option Jvm.ClassFile.FieldType)) ∈ lw_all := lw_g (lw_at lw_m12 133 rfl) rfl
theorem q2843 : (Jvm.Cond.methodLink "InnRoadModel" (295 : Nat) ({ cls := "InnRoadModel", name := "writesByte", desc := "(I)V" } : Jvm.MethodName)) ∈ lw_all := lw_g (lw_at lw_m12 134 rfl) rfl
theorem q2844 : (Jvm.Cond.privateMethod ({ cls := "InnRoadModel", name := "writesByte", desc := "(I)V" } : Jvm.MethodName)) ∈ lw_tbl := lw_at lw_m12 135 rfl
theorem q2845 : (Jvm.Cond.instanceMethod ({ cls := "InnRoadModel", name := "writesByte", desc := "(I)V" } : Jvm.MethodName)) ∈ lw_all := lw_g (lw_at lw_m12 136 rfl) rfl
theorem q2846 : (Jvm.Cond.code ({ cls := "InnRoadModel", name := "writesByte", desc := "(I)V" } : Jvm.MethodName) prog_12_method_109_code (2 : Nat) (Option.none : Option Jvm.ClassFile.FieldType)) ∈ lw_all := lw_g (lw_at lw_m12 137 rfl) rfl
theorem q2847 : (Jvm.Cond.methodLink "InnRoadModel" (307 : Nat) ({ cls := "InnRoadModel", name := "writesNumber", desc := "(I)V" } : Jvm.MethodName)) ∈ lw_all := lw_g (lw_at lw_m12 138 rfl) rfl
theorem q2848 : (Jvm.Cond.privateMethod ({ cls := "InnRoadModel", name := "writesNumber", desc := "(I)V" } : Jvm.MethodName)) ∈ lw_tbl := lw_at lw_m12 139 rfl
theorem q2849 : (Jvm.Cond.instanceMethod ({ cls := "InnRoadModel", name := "writesNumber", desc := "(I)V" } : Jvm.MethodName)) ∈ lw_all := lw_g (lw_at lw_m12 140 rfl) rfl
theorem q2850 : (Jvm.Cond.code ({ cls := "InnRoadModel", name := "writesNumber", desc := "(I)V" } : Jvm.MethodName) prog_12_method_112_code (2 : Nat) (Option.none : Option Jvm.ClassFile.FieldType)) ∈ lw_all := lw_g (lw_at lw_m12 141 rfl) rfl
theorem q2851 : (Jvm.Cond.methodLink "InnRoadModel" (298 : Nat) ({ cls := "InnRoadModel", name := "writesDigits", desc := "(I)V" } : Jvm.MethodName)) ∈ lw_all := lw_g (lw_at lw_m12 142 rfl) rfl
theorem q2852 : (Jvm.Cond.privateMethod ({ cls := "InnRoadModel", name := "writesDigits", desc := "(I)V" } : Jvm.MethodName)) ∈ lw_tbl := lw_at lw_m12 143 rfl
theorem q2853 : (Jvm.Cond.instanceMethod ({ cls := "InnRoadModel", name := "writesDigits", desc := "(I)V" } : Jvm.MethodName)) ∈ lw_all := lw_g (lw_at lw_m12 144 rfl) rfl
theorem q2854 : (Jvm.Cond.code ({ cls := "InnRoadModel", name := "writesDigits", desc := "(I)V" } : Jvm.MethodName) prog_12_method_111_code (2 : Nat) (Option.none : Option Jvm.ClassFile.FieldType)) ∈ lw_all := lw_g (lw_at lw_m12 145 rfl) rfl
theorem q2855 : (Jvm.Cond.methodLink "InnRoadModel" (324 : Nat) ({ cls := "InnRoadModel", name := "writesInn", desc := "(I)V" } : Jvm.MethodName)) ∈ lw_all := lw_g (lw_at lw_m12 146 rfl) rfl
theorem q2856 : (Jvm.Cond.privateMethod ({ cls := "InnRoadModel", name := "writesInn", desc := "(I)V" } : Jvm.MethodName)) ∈ lw_tbl := lw_at lw_m12 147 rfl
theorem q2857 : (Jvm.Cond.instanceMethod ({ cls := "InnRoadModel", name := "writesInn", desc := "(I)V" } : Jvm.MethodName)) ∈ lw_all := lw_g (lw_at lw_m12 148 rfl) rfl
theorem q2858 : (Jvm.Cond.code ({ cls := "InnRoadModel", name := "writesInn", desc := "(I)V" } : Jvm.MethodName) prog_12_method_114_code (2 : Nat) (Option.none : Option Jvm.ClassFile.FieldType)) ∈ lw_all := lw_g (lw_at lw_m12 149 rfl) rfl
theorem q2859 : (Jvm.Cond.stringRef "InnRoadModel" (310 : Nat) ";inn") ∈ lw_tbl := lw_at lw_m12 150 rfl
theorem q2860 : (Jvm.Cond.stringRef "InnRoadModel" (312 : Nat) "") ∈ lw_tbl := lw_at lw_m12 151 rfl
theorem q2861 : (Jvm.Cond.stringRef "InnRoadModel" (314 : Nat) " closed") ∈ lw_tbl := lw_at lw_m12 152 rfl
theorem q2862 : (Jvm.Cond.stringRef "InnRoadModel" (316 : Nat) " letters") ∈ lw_tbl := lw_at lw_m12 153 rfl
theorem q2863 : (Jvm.Cond.methodLink "InnRoadModel" (318 : Nat) ({ cls := "InnRoadModel", name := "isWrong", desc := "(I)Z" } : Jvm.MethodName)) ∈ lw_all := lw_g (lw_at lw_m12 154 rfl) rfl
theorem q2864 : (Jvm.Cond.privateMethod ({ cls := "InnRoadModel", name := "isWrong", desc := "(I)Z" } : Jvm.MethodName)) ∈ lw_tbl := lw_at lw_m12 155 rfl
theorem q2865 : (Jvm.Cond.instanceMethod ({ cls := "InnRoadModel", name := "isWrong", desc := "(I)Z" } : Jvm.MethodName)) ∈ lw_all := lw_g (lw_at lw_m12 156 rfl) rfl
theorem q2866 : (Jvm.Cond.code ({ cls := "InnRoadModel", name := "isWrong", desc := "(I)Z" } : Jvm.MethodName) prog_12_method_115_code (2 : Nat) (Option.some Jvm.ClassFile.FieldType.boolean)) ∈ lw_all := lw_g (lw_at lw_m12 157 rfl) rfl
theorem q2867 : (Jvm.Cond.stringRef "InnRoadModel" (327 : Nat) ";first") ∈ lw_tbl := lw_at lw_m12 158 rfl
theorem q2868 : (Jvm.Cond.methodLink "InnRoadModel" (321 : Nat) ({ cls := "InnRoadModel", name := "writesPointer", desc := "(I)V" } : Jvm.MethodName)) ∈ lw_all := lw_g (lw_at lw_m12 159 rfl) rfl
theorem q2869 : (Jvm.Cond.privateMethod ({ cls := "InnRoadModel", name := "writesPointer", desc := "(I)V" } : Jvm.MethodName)) ∈ lw_tbl := lw_at lw_m12 160 rfl
theorem q2870 : (Jvm.Cond.instanceMethod ({ cls := "InnRoadModel", name := "writesPointer", desc := "(I)V" } : Jvm.MethodName)) ∈ lw_all := lw_g (lw_at lw_m12 161 rfl) rfl
theorem q2871 : (Jvm.Cond.code ({ cls := "InnRoadModel", name := "writesPointer", desc := "(I)V" } : Jvm.MethodName) prog_12_method_113_code (2 : Nat) (Option.none : Option Jvm.ClassFile.FieldType)) ∈ lw_all := lw_g (lw_at lw_m12 162 rfl) rfl
theorem q2872 : (Jvm.Cond.stringRef "InnRoadModel" (301 : Nat) " -") ∈ lw_tbl := lw_at lw_m12 163 rfl
theorem q2873 : (Jvm.Cond.stringRef "InnRoadModel" (329 : Nat) ";second") ∈ lw_tbl := lw_at lw_m12 164 rfl
theorem q2874 : (Jvm.Cond.stringRef "InnRoadModel" (331 : Nat) ";count") ∈ lw_tbl := lw_at lw_m12 165 rfl
theorem q2875 : (Jvm.Cond.stringRef "InnRoadModel" (333 : Nat) ";next") ∈ lw_tbl := lw_at lw_m12 166 rfl
theorem q2876 : (Jvm.Cond.methodLink "InnRoadModel" (335 : Nat) ({ cls := "InnRoadModel", name := "writesRow", desc := "(Ljava/lang/String;I)V" } : Jvm.MethodName)) ∈ lw_all := lw_g (lw_at lw_m12 167 rfl) rfl
theorem q2877 : (Jvm.Cond.privateMethod ({ cls := "InnRoadModel", name := "writesRow", desc := "(Ljava/lang/String;I)V" } : Jvm.MethodName)) ∈ lw_tbl := lw_at lw_m12 168 rfl
theorem q2878 : (Jvm.Cond.instanceMethod ({ cls := "InnRoadModel", name := "writesRow", desc := "(Ljava/lang/String;I)V" } : Jvm.MethodName)) ∈ lw_all := lw_g (lw_at lw_m12 169 rfl) rfl
theorem q2879 : (Jvm.Cond.code ({ cls := "InnRoadModel", name := "writesRow", desc := "(Ljava/lang/String;I)V" } : Jvm.MethodName) prog_12_method_116_code (4 : Nat) (Option.none : Option Jvm.ClassFile.FieldType)) ∈ lw_all := lw_g (lw_at lw_m12 170 rfl) rfl
theorem q2880 : (Jvm.Cond.stringRef "InnRoadModel" (339 : Nat) ";skip") ∈ lw_tbl := lw_at lw_m12 171 rfl
theorem q2882 : (Jvm.Cond.instanceMethod ({ cls := "InnRoadModel", name := "written", desc := "(I)I" } : Jvm.MethodName)) ∈ lw_all := lw_g (lw_at lw_m12 173 rfl) rfl
theorem q2883 : (Jvm.Cond.selects "InnRoadModel" ({ cls := "InnRoadModel", name := "written", desc := "(I)I" } : Jvm.MethodName) ({ cls := "InnRoadModel", name := "written", desc := "(I)I" } : Jvm.MethodName)) ∈ lw_all := lw_g (lw_at lw_m12 174 rfl) rfl
theorem q2884 : (Jvm.Cond.code ({ cls := "InnRoadModel", name := "written", desc := "(I)I" } : Jvm.MethodName) prog_12_method_118_code (4 : Nat) (Option.some Jvm.ClassFile.FieldType.int)) ∈ lw_all := lw_g (lw_at lw_m12 175 rfl) rfl
theorem q2885 : (Jvm.Cond.constantLong "InnRoadModel" (341 : Nat) (4 : Int64)) ∈ lw_all := lw_g (lw_at lw_m12 176 rfl) rfl
theorem q2917 : (Jvm.Cond.castable "InnRoadModel" "java/lang/Object") ∈ lw_tbl := lw_at lw_m12 208 rfl
theorem in_X6 : ∀ w ∈ wsX60, w ∈ lw_all := lw_in wsX60 [2363, 2365, 2367, 2369, 2371, 2373, 2375, 2377, 2379, 2381, 2383, 2385, 2387, 2389, 2391, 2393, 2395, 2397, 2399, 2401, 2403, 2405, 2407, 2409, 2411] (by decide +kernel) (by decide +kernel)
