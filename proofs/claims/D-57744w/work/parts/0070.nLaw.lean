/-! InnRoadLaw -/
set_option maxRecDepth 100000
def RX0 : String := "InnRoadLaw"
abbrev cX0_append : ByteArray := method_3_code
def yX0_append : MethodName := ⟨RX0, "append", "(LInnRoad;IIIII[J)I"⟩
def dkwX0_append_1 : List UInt8 := [172]
abbrev dktX0_append_1 : List UInt8 := dkwX0_append_1 ++ []
def dkwX0_append_0 : List UInt8 := [25, 6, 3, 42, 27, 28, 29, 21, 4, 21, 5, 182, 0, 7, 133, 80, 167, 0, 7, 58, 7, 4, 172, 3]
abbrev dktX0_append_0 : List UInt8 := dkwX0_append_0 ++ dktX0_append_1
theorem dksX0_append_0 : cX0_append.data.toList.drop 0 = dktX0_append_0 := by decide +kernel
theorem dksX0_append_1 : cX0_append.data.toList.drop 24 = dktX0_append_1 := dk_seg dksX0_append_0 24 rfl rfl
theorem dX0_append_0 : decode cX0_append 0 = .ok (.aload 6, 2) := dk_25 6 (dk_at dksX0_append_0 0 rfl rfl)
theorem dX0_append_2 : decode cX0_append 2 = .ok (.iconst 0, 1) := dk_3 (dk_at dksX0_append_0 2 rfl rfl)
theorem dX0_append_3 : decode cX0_append 3 = .ok (.aload_n 0, 1) := dk_42 (dk_at dksX0_append_0 3 rfl rfl)
theorem dX0_append_4 : decode cX0_append 4 = .ok (.iload_n 1, 1) := dk_27 (dk_at dksX0_append_0 4 rfl rfl)
theorem dX0_append_5 : decode cX0_append 5 = .ok (.iload_n 2, 1) := dk_28 (dk_at dksX0_append_0 5 rfl rfl)
theorem dX0_append_6 : decode cX0_append 6 = .ok (.iload_n 3, 1) := dk_29 (dk_at dksX0_append_0 6 rfl rfl)
theorem dX0_append_7 : decode cX0_append 7 = .ok (.iload 4, 2) := dk_21 4 (dk_at dksX0_append_0 7 rfl rfl)
theorem dX0_append_9 : decode cX0_append 9 = .ok (.iload 5, 2) := dk_21 5 (dk_at dksX0_append_0 9 rfl rfl)
theorem dX0_append_11 : decode cX0_append 11 = .ok (.invokevirtual 7, 3) := dk_182 0 7 (dk_at dksX0_append_0 11 rfl rfl)
theorem dX0_append_14 : decode cX0_append 14 = .ok (.i2l, 1) := dk_133 (dk_at dksX0_append_0 14 rfl rfl)
theorem dX0_append_15 : decode cX0_append 15 = .ok (.lastore, 1) := dk_80 (dk_at dksX0_append_0 15 rfl rfl)
theorem dX0_append_16 : decode cX0_append 16 = .ok (.goto 7, 3) := dk_167 0 7 (dk_at dksX0_append_0 16 rfl rfl)
theorem dX0_append_19 : decode cX0_append 19 = .ok (.astore 7, 2) := dk_58 7 (dk_at dksX0_append_0 19 rfl rfl)
theorem dX0_append_21 : decode cX0_append 21 = .ok (.iconst 1, 1) := dk_4 (dk_at dksX0_append_0 21 rfl rfl)
theorem dX0_append_22 : decode cX0_append 22 = .ok (.ireturn, 1) := dk_172 (dk_at dksX0_append_0 22 rfl rfl)
theorem dX0_append_23 : decode cX0_append 23 = .ok (.iconst 0, 1) := dk_3 (dk_at dksX0_append_0 23 rfl rfl)
theorem dX0_append_24 : decode cX0_append 24 = .ok (.ireturn, 1) := dk_172 (dk_at dksX0_append_1 0 rfl rfl)
abbrev cX0_truncate : ByteArray := method_4_code
def yX0_truncate : MethodName := ⟨RX0, "truncate", "(LInnRoad;I[J)I"⟩
def dkwX0_truncate_0 : List UInt8 := [44, 3, 42, 27, 182, 0, 15, 133, 80, 167, 0, 6, 78, 4, 172, 3, 172]
abbrev dktX0_truncate_0 : List UInt8 := dkwX0_truncate_0 ++ []
theorem dksX0_truncate_0 : cX0_truncate.data.toList.drop 0 = dktX0_truncate_0 := by decide +kernel
theorem dX0_truncate_0 : decode cX0_truncate 0 = .ok (.aload_n 2, 1) := dk_44 (dk_at dksX0_truncate_0 0 rfl rfl)
theorem dX0_truncate_1 : decode cX0_truncate 1 = .ok (.iconst 0, 1) := dk_3 (dk_at dksX0_truncate_0 1 rfl rfl)
theorem dX0_truncate_2 : decode cX0_truncate 2 = .ok (.aload_n 0, 1) := dk_42 (dk_at dksX0_truncate_0 2 rfl rfl)
theorem dX0_truncate_3 : decode cX0_truncate 3 = .ok (.iload_n 1, 1) := dk_27 (dk_at dksX0_truncate_0 3 rfl rfl)
theorem dX0_truncate_4 : decode cX0_truncate 4 = .ok (.invokevirtual 15, 3) := dk_182 0 15 (dk_at dksX0_truncate_0 4 rfl rfl)
theorem dX0_truncate_7 : decode cX0_truncate 7 = .ok (.i2l, 1) := dk_133 (dk_at dksX0_truncate_0 7 rfl rfl)
theorem dX0_truncate_8 : decode cX0_truncate 8 = .ok (.lastore, 1) := dk_80 (dk_at dksX0_truncate_0 8 rfl rfl)
theorem dX0_truncate_9 : decode cX0_truncate 9 = .ok (.goto 6, 3) := dk_167 0 6 (dk_at dksX0_truncate_0 9 rfl rfl)
theorem dX0_truncate_12 : decode cX0_truncate 12 = .ok (.astore_n 3, 1) := dk_78 (dk_at dksX0_truncate_0 12 rfl rfl)
theorem dX0_truncate_13 : decode cX0_truncate 13 = .ok (.iconst 1, 1) := dk_4 (dk_at dksX0_truncate_0 13 rfl rfl)
theorem dX0_truncate_14 : decode cX0_truncate 14 = .ok (.ireturn, 1) := dk_172 (dk_at dksX0_truncate_0 14 rfl rfl)
theorem dX0_truncate_15 : decode cX0_truncate 15 = .ok (.iconst 0, 1) := dk_3 (dk_at dksX0_truncate_0 15 rfl rfl)
theorem dX0_truncate_16 : decode cX0_truncate 16 = .ok (.ireturn, 1) := dk_172 (dk_at dksX0_truncate_0 16 rfl rfl)
abbrev cX0_load : ByteArray := method_5_code
def yX0_load : MethodName := ⟨RX0, "load", "(LInnRoad;[J)I"⟩
def dkwX0_load_0 : List UInt8 := [43, 3, 42, 182, 0, 21, 133, 80, 167, 0, 6, 77, 4, 172, 3, 172]
abbrev dktX0_load_0 : List UInt8 := dkwX0_load_0 ++ []
theorem dksX0_load_0 : cX0_load.data.toList.drop 0 = dktX0_load_0 := by decide +kernel
theorem dX0_load_0 : decode cX0_load 0 = .ok (.aload_n 1, 1) := dk_43 (dk_at dksX0_load_0 0 rfl rfl)
theorem dX0_load_1 : decode cX0_load 1 = .ok (.iconst 0, 1) := dk_3 (dk_at dksX0_load_0 1 rfl rfl)
theorem dX0_load_2 : decode cX0_load 2 = .ok (.aload_n 0, 1) := dk_42 (dk_at dksX0_load_0 2 rfl rfl)
theorem dX0_load_3 : decode cX0_load 3 = .ok (.invokevirtual 21, 3) := dk_182 0 21 (dk_at dksX0_load_0 3 rfl rfl)
theorem dX0_load_6 : decode cX0_load 6 = .ok (.i2l, 1) := dk_133 (dk_at dksX0_load_0 6 rfl rfl)
theorem dX0_load_7 : decode cX0_load 7 = .ok (.lastore, 1) := dk_80 (dk_at dksX0_load_0 7 rfl rfl)
theorem dX0_load_8 : decode cX0_load 8 = .ok (.goto 6, 3) := dk_167 0 6 (dk_at dksX0_load_0 8 rfl rfl)
theorem dX0_load_11 : decode cX0_load 11 = .ok (.astore_n 2, 1) := dk_77 (dk_at dksX0_load_0 11 rfl rfl)
theorem dX0_load_12 : decode cX0_load 12 = .ok (.iconst 1, 1) := dk_4 (dk_at dksX0_load_0 12 rfl rfl)
theorem dX0_load_13 : decode cX0_load 13 = .ok (.ireturn, 1) := dk_172 (dk_at dksX0_load_0 13 rfl rfl)
theorem dX0_load_14 : decode cX0_load 14 = .ok (.iconst 0, 1) := dk_3 (dk_at dksX0_load_0 14 rfl rfl)
theorem dX0_load_15 : decode cX0_load 15 = .ok (.ireturn, 1) := dk_172 (dk_at dksX0_load_0 15 rfl rfl)
abbrev cX0_addInn : ByteArray := method_6_code
def yX0_addInn : MethodName := ⟨RX0, "addInn", "(LInnRoad;I[J)I"⟩
def dkwX0_addInn_0 : List UInt8 := [44, 3, 42, 27, 182, 0, 25, 133, 80, 167, 0, 9, 78, 4, 172, 78, 5, 172, 3, 172]
abbrev dktX0_addInn_0 : List UInt8 := dkwX0_addInn_0 ++ []
theorem dksX0_addInn_0 : cX0_addInn.data.toList.drop 0 = dktX0_addInn_0 := by decide +kernel
theorem dX0_addInn_0 : decode cX0_addInn 0 = .ok (.aload_n 2, 1) := dk_44 (dk_at dksX0_addInn_0 0 rfl rfl)
theorem dX0_addInn_1 : decode cX0_addInn 1 = .ok (.iconst 0, 1) := dk_3 (dk_at dksX0_addInn_0 1 rfl rfl)
theorem dX0_addInn_2 : decode cX0_addInn 2 = .ok (.aload_n 0, 1) := dk_42 (dk_at dksX0_addInn_0 2 rfl rfl)
theorem dX0_addInn_3 : decode cX0_addInn 3 = .ok (.iload_n 1, 1) := dk_27 (dk_at dksX0_addInn_0 3 rfl rfl)
theorem dX0_addInn_4 : decode cX0_addInn 4 = .ok (.invokevirtual 25, 3) := dk_182 0 25 (dk_at dksX0_addInn_0 4 rfl rfl)
theorem dX0_addInn_7 : decode cX0_addInn 7 = .ok (.i2l, 1) := dk_133 (dk_at dksX0_addInn_0 7 rfl rfl)
theorem dX0_addInn_8 : decode cX0_addInn 8 = .ok (.lastore, 1) := dk_80 (dk_at dksX0_addInn_0 8 rfl rfl)
theorem dX0_addInn_9 : decode cX0_addInn 9 = .ok (.goto 9, 3) := dk_167 0 9 (dk_at dksX0_addInn_0 9 rfl rfl)
theorem dX0_addInn_12 : decode cX0_addInn 12 = .ok (.astore_n 3, 1) := dk_78 (dk_at dksX0_addInn_0 12 rfl rfl)
theorem dX0_addInn_13 : decode cX0_addInn 13 = .ok (.iconst 1, 1) := dk_4 (dk_at dksX0_addInn_0 13 rfl rfl)
theorem dX0_addInn_14 : decode cX0_addInn 14 = .ok (.ireturn, 1) := dk_172 (dk_at dksX0_addInn_0 14 rfl rfl)
theorem dX0_addInn_15 : decode cX0_addInn 15 = .ok (.astore_n 3, 1) := dk_78 (dk_at dksX0_addInn_0 15 rfl rfl)
theorem dX0_addInn_16 : decode cX0_addInn 16 = .ok (.iconst 2, 1) := dk_5 (dk_at dksX0_addInn_0 16 rfl rfl)
theorem dX0_addInn_17 : decode cX0_addInn 17 = .ok (.ireturn, 1) := dk_172 (dk_at dksX0_addInn_0 17 rfl rfl)
theorem dX0_addInn_18 : decode cX0_addInn 18 = .ok (.iconst 0, 1) := dk_3 (dk_at dksX0_addInn_0 18 rfl rfl)
theorem dX0_addInn_19 : decode cX0_addInn 19 = .ok (.ireturn, 1) := dk_172 (dk_at dksX0_addInn_0 19 rfl rfl)
abbrev cX0_removeInn : ByteArray := method_7_code
def yX0_removeInn : MethodName := ⟨RX0, "removeInn", "(LInnRoad;I[J)I"⟩
def dkwX0_removeInn_0 : List UInt8 := [44, 3, 42, 27, 182, 0, 28, 133, 80, 167, 0, 9, 78, 4, 172, 78, 5, 172, 3, 172]
abbrev dktX0_removeInn_0 : List UInt8 := dkwX0_removeInn_0 ++ []
theorem dksX0_removeInn_0 : cX0_removeInn.data.toList.drop 0 = dktX0_removeInn_0 := by decide +kernel
theorem dX0_removeInn_0 : decode cX0_removeInn 0 = .ok (.aload_n 2, 1) := dk_44 (dk_at dksX0_removeInn_0 0 rfl rfl)
theorem dX0_removeInn_1 : decode cX0_removeInn 1 = .ok (.iconst 0, 1) := dk_3 (dk_at dksX0_removeInn_0 1 rfl rfl)
theorem dX0_removeInn_2 : decode cX0_removeInn 2 = .ok (.aload_n 0, 1) := dk_42 (dk_at dksX0_removeInn_0 2 rfl rfl)
theorem dX0_removeInn_3 : decode cX0_removeInn 3 = .ok (.iload_n 1, 1) := dk_27 (dk_at dksX0_removeInn_0 3 rfl rfl)
theorem dX0_removeInn_4 : decode cX0_removeInn 4 = .ok (.invokevirtual 28, 3) := dk_182 0 28 (dk_at dksX0_removeInn_0 4 rfl rfl)
theorem dX0_removeInn_7 : decode cX0_removeInn 7 = .ok (.i2l, 1) := dk_133 (dk_at dksX0_removeInn_0 7 rfl rfl)
theorem dX0_removeInn_8 : decode cX0_removeInn 8 = .ok (.lastore, 1) := dk_80 (dk_at dksX0_removeInn_0 8 rfl rfl)
theorem dX0_removeInn_9 : decode cX0_removeInn 9 = .ok (.goto 9, 3) := dk_167 0 9 (dk_at dksX0_removeInn_0 9 rfl rfl)
theorem dX0_removeInn_12 : decode cX0_removeInn 12 = .ok (.astore_n 3, 1) := dk_78 (dk_at dksX0_removeInn_0 12 rfl rfl)
theorem dX0_removeInn_13 : decode cX0_removeInn 13 = .ok (.iconst 1, 1) := dk_4 (dk_at dksX0_removeInn_0 13 rfl rfl)
theorem dX0_removeInn_14 : decode cX0_removeInn 14 = .ok (.ireturn, 1) := dk_172 (dk_at dksX0_removeInn_0 14 rfl rfl)
theorem dX0_removeInn_15 : decode cX0_removeInn 15 = .ok (.astore_n 3, 1) := dk_78 (dk_at dksX0_removeInn_0 15 rfl rfl)
theorem dX0_removeInn_16 : decode cX0_removeInn 16 = .ok (.iconst 2, 1) := dk_5 (dk_at dksX0_removeInn_0 16 rfl rfl)
theorem dX0_removeInn_17 : decode cX0_removeInn 17 = .ok (.ireturn, 1) := dk_172 (dk_at dksX0_removeInn_0 17 rfl rfl)
theorem dX0_removeInn_18 : decode cX0_removeInn 18 = .ok (.iconst 0, 1) := dk_3 (dk_at dksX0_removeInn_0 18 rfl rfl)
theorem dX0_removeInn_19 : decode cX0_removeInn 19 = .ok (.ireturn, 1) := dk_172 (dk_at dksX0_removeInn_0 19 rfl rfl)
abbrev cX0_openInn : ByteArray := method_8_code
def yX0_openInn : MethodName := ⟨RX0, "openInn", "(LInnRoad;I[J)I"⟩
def dkwX0_openInn_0 : List UInt8 := [44, 3, 42, 27, 182, 0, 33, 153, 0, 7, 10, 167, 0, 4, 9, 80, 167, 0, 6, 78, 4, 172, 3, 172]
abbrev dktX0_openInn_0 : List UInt8 := dkwX0_openInn_0 ++ []
theorem dksX0_openInn_0 : cX0_openInn.data.toList.drop 0 = dktX0_openInn_0 := by decide +kernel
theorem dX0_openInn_0 : decode cX0_openInn 0 = .ok (.aload_n 2, 1) := dk_44 (dk_at dksX0_openInn_0 0 rfl rfl)
theorem dX0_openInn_1 : decode cX0_openInn 1 = .ok (.iconst 0, 1) := dk_3 (dk_at dksX0_openInn_0 1 rfl rfl)
theorem dX0_openInn_2 : decode cX0_openInn 2 = .ok (.aload_n 0, 1) := dk_42 (dk_at dksX0_openInn_0 2 rfl rfl)
theorem dX0_openInn_3 : decode cX0_openInn 3 = .ok (.iload_n 1, 1) := dk_27 (dk_at dksX0_openInn_0 3 rfl rfl)
theorem dX0_openInn_4 : decode cX0_openInn 4 = .ok (.invokevirtual 33, 3) := dk_182 0 33 (dk_at dksX0_openInn_0 4 rfl rfl)
theorem dX0_openInn_7 : decode cX0_openInn 7 = .ok (.ifCond .eq 7, 3) := dk_153 0 7 (dk_at dksX0_openInn_0 7 rfl rfl)
theorem dX0_openInn_10 : decode cX0_openInn 10 = .ok (.lconst 1, 1) := dk_10 (dk_at dksX0_openInn_0 10 rfl rfl)
theorem dX0_openInn_11 : decode cX0_openInn 11 = .ok (.goto 4, 3) := dk_167 0 4 (dk_at dksX0_openInn_0 11 rfl rfl)
theorem dX0_openInn_14 : decode cX0_openInn 14 = .ok (.lconst 0, 1) := dk_9 (dk_at dksX0_openInn_0 14 rfl rfl)
theorem dX0_openInn_15 : decode cX0_openInn 15 = .ok (.lastore, 1) := dk_80 (dk_at dksX0_openInn_0 15 rfl rfl)
theorem dX0_openInn_16 : decode cX0_openInn 16 = .ok (.goto 6, 3) := dk_167 0 6 (dk_at dksX0_openInn_0 16 rfl rfl)
theorem dX0_openInn_19 : decode cX0_openInn 19 = .ok (.astore_n 3, 1) := dk_78 (dk_at dksX0_openInn_0 19 rfl rfl)
theorem dX0_openInn_20 : decode cX0_openInn 20 = .ok (.iconst 1, 1) := dk_4 (dk_at dksX0_openInn_0 20 rfl rfl)
theorem dX0_openInn_21 : decode cX0_openInn 21 = .ok (.ireturn, 1) := dk_172 (dk_at dksX0_openInn_0 21 rfl rfl)
theorem dX0_openInn_22 : decode cX0_openInn 22 = .ok (.iconst 0, 1) := dk_3 (dk_at dksX0_openInn_0 22 rfl rfl)
theorem dX0_openInn_23 : decode cX0_openInn 23 = .ok (.ireturn, 1) := dk_172 (dk_at dksX0_openInn_0 23 rfl rfl)
abbrev cX0_closeInn : ByteArray := method_9_code
def yX0_closeInn : MethodName := ⟨RX0, "closeInn", "(LInnRoad;I[J)I"⟩
def dkwX0_closeInn_0 : List UInt8 := [44, 3, 42, 27, 182, 0, 37, 153, 0, 7, 10, 167, 0, 4, 9, 80, 167, 0, 6, 78, 4, 172, 3, 172]
abbrev dktX0_closeInn_0 : List UInt8 := dkwX0_closeInn_0 ++ []
theorem dksX0_closeInn_0 : cX0_closeInn.data.toList.drop 0 = dktX0_closeInn_0 := by decide +kernel
theorem dX0_closeInn_0 : decode cX0_closeInn 0 = .ok (.aload_n 2, 1) := dk_44 (dk_at dksX0_closeInn_0 0 rfl rfl)
theorem dX0_closeInn_1 : decode cX0_closeInn 1 = .ok (.iconst 0, 1) := dk_3 (dk_at dksX0_closeInn_0 1 rfl rfl)
theorem dX0_closeInn_2 : decode cX0_closeInn 2 = .ok (.aload_n 0, 1) := dk_42 (dk_at dksX0_closeInn_0 2 rfl rfl)
theorem dX0_closeInn_3 : decode cX0_closeInn 3 = .ok (.iload_n 1, 1) := dk_27 (dk_at dksX0_closeInn_0 3 rfl rfl)
theorem dX0_closeInn_4 : decode cX0_closeInn 4 = .ok (.invokevirtual 37, 3) := dk_182 0 37 (dk_at dksX0_closeInn_0 4 rfl rfl)
theorem dX0_closeInn_7 : decode cX0_closeInn 7 = .ok (.ifCond .eq 7, 3) := dk_153 0 7 (dk_at dksX0_closeInn_0 7 rfl rfl)
theorem dX0_closeInn_10 : decode cX0_closeInn 10 = .ok (.lconst 1, 1) := dk_10 (dk_at dksX0_closeInn_0 10 rfl rfl)
theorem dX0_closeInn_11 : decode cX0_closeInn 11 = .ok (.goto 4, 3) := dk_167 0 4 (dk_at dksX0_closeInn_0 11 rfl rfl)
theorem dX0_closeInn_14 : decode cX0_closeInn 14 = .ok (.lconst 0, 1) := dk_9 (dk_at dksX0_closeInn_0 14 rfl rfl)
theorem dX0_closeInn_15 : decode cX0_closeInn 15 = .ok (.lastore, 1) := dk_80 (dk_at dksX0_closeInn_0 15 rfl rfl)
theorem dX0_closeInn_16 : decode cX0_closeInn 16 = .ok (.goto 6, 3) := dk_167 0 6 (dk_at dksX0_closeInn_0 16 rfl rfl)
theorem dX0_closeInn_19 : decode cX0_closeInn 19 = .ok (.astore_n 3, 1) := dk_78 (dk_at dksX0_closeInn_0 19 rfl rfl)
theorem dX0_closeInn_20 : decode cX0_closeInn 20 = .ok (.iconst 1, 1) := dk_4 (dk_at dksX0_closeInn_0 20 rfl rfl)
theorem dX0_closeInn_21 : decode cX0_closeInn 21 = .ok (.ireturn, 1) := dk_172 (dk_at dksX0_closeInn_0 21 rfl rfl)
theorem dX0_closeInn_22 : decode cX0_closeInn 22 = .ok (.iconst 0, 1) := dk_3 (dk_at dksX0_closeInn_0 22 rfl rfl)
theorem dX0_closeInn_23 : decode cX0_closeInn 23 = .ok (.ireturn, 1) := dk_172 (dk_at dksX0_closeInn_0 23 rfl rfl)
abbrev cX0_snow : ByteArray := method_10_code
def yX0_snow : MethodName := ⟨RX0, "snow", "(LInnRoad;II[J)I"⟩
def dkwX0_snow_0 : List UInt8 := [45, 3, 42, 27, 28, 182, 0, 40, 133, 80, 167, 0, 7, 58, 4, 4, 172, 3, 172]
abbrev dktX0_snow_0 : List UInt8 := dkwX0_snow_0 ++ []
theorem dksX0_snow_0 : cX0_snow.data.toList.drop 0 = dktX0_snow_0 := by decide +kernel
theorem dX0_snow_0 : decode cX0_snow 0 = .ok (.aload_n 3, 1) := dk_45 (dk_at dksX0_snow_0 0 rfl rfl)
theorem dX0_snow_1 : decode cX0_snow 1 = .ok (.iconst 0, 1) := dk_3 (dk_at dksX0_snow_0 1 rfl rfl)
theorem dX0_snow_2 : decode cX0_snow 2 = .ok (.aload_n 0, 1) := dk_42 (dk_at dksX0_snow_0 2 rfl rfl)
theorem dX0_snow_3 : decode cX0_snow 3 = .ok (.iload_n 1, 1) := dk_27 (dk_at dksX0_snow_0 3 rfl rfl)
theorem dX0_snow_4 : decode cX0_snow 4 = .ok (.iload_n 2, 1) := dk_28 (dk_at dksX0_snow_0 4 rfl rfl)
theorem dX0_snow_5 : decode cX0_snow 5 = .ok (.invokevirtual 40, 3) := dk_182 0 40 (dk_at dksX0_snow_0 5 rfl rfl)
theorem dX0_snow_8 : decode cX0_snow 8 = .ok (.i2l, 1) := dk_133 (dk_at dksX0_snow_0 8 rfl rfl)
theorem dX0_snow_9 : decode cX0_snow 9 = .ok (.lastore, 1) := dk_80 (dk_at dksX0_snow_0 9 rfl rfl)
theorem dX0_snow_10 : decode cX0_snow 10 = .ok (.goto 7, 3) := dk_167 0 7 (dk_at dksX0_snow_0 10 rfl rfl)
theorem dX0_snow_13 : decode cX0_snow 13 = .ok (.astore 4, 2) := dk_58 4 (dk_at dksX0_snow_0 13 rfl rfl)
theorem dX0_snow_15 : decode cX0_snow 15 = .ok (.iconst 1, 1) := dk_4 (dk_at dksX0_snow_0 15 rfl rfl)
theorem dX0_snow_16 : decode cX0_snow 16 = .ok (.ireturn, 1) := dk_172 (dk_at dksX0_snow_0 16 rfl rfl)
theorem dX0_snow_17 : decode cX0_snow 17 = .ok (.iconst 0, 1) := dk_3 (dk_at dksX0_snow_0 17 rfl rfl)
theorem dX0_snow_18 : decode cX0_snow 18 = .ok (.ireturn, 1) := dk_172 (dk_at dksX0_snow_0 18 rfl rfl)
abbrev cX0_setRange : ByteArray := method_11_code
def yX0_setRange : MethodName := ⟨RX0, "setRange", "(LInnRoad;I[J)I"⟩
def dkwX0_setRange_0 : List UInt8 := [44, 3, 42, 27, 182, 0, 44, 133, 80, 167, 0, 6, 78, 4, 172, 3, 172]
abbrev dktX0_setRange_0 : List UInt8 := dkwX0_setRange_0 ++ []
theorem dksX0_setRange_0 : cX0_setRange.data.toList.drop 0 = dktX0_setRange_0 := by decide +kernel
theorem dX0_setRange_0 : decode cX0_setRange 0 = .ok (.aload_n 2, 1) := dk_44 (dk_at dksX0_setRange_0 0 rfl rfl)
theorem dX0_setRange_1 : decode cX0_setRange 1 = .ok (.iconst 0, 1) := dk_3 (dk_at dksX0_setRange_0 1 rfl rfl)
theorem dX0_setRange_2 : decode cX0_setRange 2 = .ok (.aload_n 0, 1) := dk_42 (dk_at dksX0_setRange_0 2 rfl rfl)
theorem dX0_setRange_3 : decode cX0_setRange 3 = .ok (.iload_n 1, 1) := dk_27 (dk_at dksX0_setRange_0 3 rfl rfl)
theorem dX0_setRange_4 : decode cX0_setRange 4 = .ok (.invokevirtual 44, 3) := dk_182 0 44 (dk_at dksX0_setRange_0 4 rfl rfl)
theorem dX0_setRange_7 : decode cX0_setRange 7 = .ok (.i2l, 1) := dk_133 (dk_at dksX0_setRange_0 7 rfl rfl)
theorem dX0_setRange_8 : decode cX0_setRange 8 = .ok (.lastore, 1) := dk_80 (dk_at dksX0_setRange_0 8 rfl rfl)
theorem dX0_setRange_9 : decode cX0_setRange 9 = .ok (.goto 6, 3) := dk_167 0 6 (dk_at dksX0_setRange_0 9 rfl rfl)
theorem dX0_setRange_12 : decode cX0_setRange 12 = .ok (.astore_n 3, 1) := dk_78 (dk_at dksX0_setRange_0 12 rfl rfl)
theorem dX0_setRange_13 : decode cX0_setRange 13 = .ok (.iconst 1, 1) := dk_4 (dk_at dksX0_setRange_0 13 rfl rfl)
theorem dX0_setRange_14 : decode cX0_setRange 14 = .ok (.ireturn, 1) := dk_172 (dk_at dksX0_setRange_0 14 rfl rfl)
theorem dX0_setRange_15 : decode cX0_setRange 15 = .ok (.iconst 0, 1) := dk_3 (dk_at dksX0_setRange_0 15 rfl rfl)
theorem dX0_setRange_16 : decode cX0_setRange 16 = .ok (.ireturn, 1) := dk_172 (dk_at dksX0_setRange_0 16 rfl rfl)
abbrev cX0_setNext : ByteArray := method_12_code
def yX0_setNext : MethodName := ⟨RX0, "setNext", "(LInnRoad;II[J)I"⟩
def dkwX0_setNext_0 : List UInt8 := [45, 3, 42, 27, 28, 182, 0, 47, 133, 80, 167, 0, 11, 58, 4, 4, 172, 58, 4, 5, 172, 3, 172]
abbrev dktX0_setNext_0 : List UInt8 := dkwX0_setNext_0 ++ []
theorem dksX0_setNext_0 : cX0_setNext.data.toList.drop 0 = dktX0_setNext_0 := by decide +kernel
theorem dX0_setNext_0 : decode cX0_setNext 0 = .ok (.aload_n 3, 1) := dk_45 (dk_at dksX0_setNext_0 0 rfl rfl)
theorem dX0_setNext_1 : decode cX0_setNext 1 = .ok (.iconst 0, 1) := dk_3 (dk_at dksX0_setNext_0 1 rfl rfl)
theorem dX0_setNext_2 : decode cX0_setNext 2 = .ok (.aload_n 0, 1) := dk_42 (dk_at dksX0_setNext_0 2 rfl rfl)
theorem dX0_setNext_3 : decode cX0_setNext 3 = .ok (.iload_n 1, 1) := dk_27 (dk_at dksX0_setNext_0 3 rfl rfl)
theorem dX0_setNext_4 : decode cX0_setNext 4 = .ok (.iload_n 2, 1) := dk_28 (dk_at dksX0_setNext_0 4 rfl rfl)
theorem dX0_setNext_5 : decode cX0_setNext 5 = .ok (.invokevirtual 47, 3) := dk_182 0 47 (dk_at dksX0_setNext_0 5 rfl rfl)
theorem dX0_setNext_8 : decode cX0_setNext 8 = .ok (.i2l, 1) := dk_133 (dk_at dksX0_setNext_0 8 rfl rfl)
theorem dX0_setNext_9 : decode cX0_setNext 9 = .ok (.lastore, 1) := dk_80 (dk_at dksX0_setNext_0 9 rfl rfl)
theorem dX0_setNext_10 : decode cX0_setNext 10 = .ok (.goto 11, 3) := dk_167 0 11 (dk_at dksX0_setNext_0 10 rfl rfl)
theorem dX0_setNext_13 : decode cX0_setNext 13 = .ok (.astore 4, 2) := dk_58 4 (dk_at dksX0_setNext_0 13 rfl rfl)
theorem dX0_setNext_15 : decode cX0_setNext 15 = .ok (.iconst 1, 1) := dk_4 (dk_at dksX0_setNext_0 15 rfl rfl)
theorem dX0_setNext_16 : decode cX0_setNext 16 = .ok (.ireturn, 1) := dk_172 (dk_at dksX0_setNext_0 16 rfl rfl)
theorem dX0_setNext_17 : decode cX0_setNext 17 = .ok (.astore 4, 2) := dk_58 4 (dk_at dksX0_setNext_0 17 rfl rfl)
theorem dX0_setNext_19 : decode cX0_setNext 19 = .ok (.iconst 2, 1) := dk_5 (dk_at dksX0_setNext_0 19 rfl rfl)
theorem dX0_setNext_20 : decode cX0_setNext 20 = .ok (.ireturn, 1) := dk_172 (dk_at dksX0_setNext_0 20 rfl rfl)
theorem dX0_setNext_21 : decode cX0_setNext 21 = .ok (.iconst 0, 1) := dk_3 (dk_at dksX0_setNext_0 21 rfl rfl)
theorem dX0_setNext_22 : decode cX0_setNext 22 = .ok (.ireturn, 1) := dk_172 (dk_at dksX0_setNext_0 22 rfl rfl)
abbrev cX0_setSkip : ByteArray := method_13_code
def yX0_setSkip : MethodName := ⟨RX0, "setSkip", "(LInnRoad;II[J)I"⟩
def dkwX0_setSkip_0 : List UInt8 := [45, 3, 42, 27, 28, 182, 0, 50, 133, 80, 167, 0, 11, 58, 4, 4, 172, 58, 4, 5, 172, 3, 172]
abbrev dktX0_setSkip_0 : List UInt8 := dkwX0_setSkip_0 ++ []
theorem dksX0_setSkip_0 : cX0_setSkip.data.toList.drop 0 = dktX0_setSkip_0 := by decide +kernel
theorem dX0_setSkip_0 : decode cX0_setSkip 0 = .ok (.aload_n 3, 1) := dk_45 (dk_at dksX0_setSkip_0 0 rfl rfl)
theorem dX0_setSkip_1 : decode cX0_setSkip 1 = .ok (.iconst 0, 1) := dk_3 (dk_at dksX0_setSkip_0 1 rfl rfl)
theorem dX0_setSkip_2 : decode cX0_setSkip 2 = .ok (.aload_n 0, 1) := dk_42 (dk_at dksX0_setSkip_0 2 rfl rfl)
theorem dX0_setSkip_3 : decode cX0_setSkip 3 = .ok (.iload_n 1, 1) := dk_27 (dk_at dksX0_setSkip_0 3 rfl rfl)
theorem dX0_setSkip_4 : decode cX0_setSkip 4 = .ok (.iload_n 2, 1) := dk_28 (dk_at dksX0_setSkip_0 4 rfl rfl)
theorem dX0_setSkip_5 : decode cX0_setSkip 5 = .ok (.invokevirtual 50, 3) := dk_182 0 50 (dk_at dksX0_setSkip_0 5 rfl rfl)
theorem dX0_setSkip_8 : decode cX0_setSkip 8 = .ok (.i2l, 1) := dk_133 (dk_at dksX0_setSkip_0 8 rfl rfl)
theorem dX0_setSkip_9 : decode cX0_setSkip 9 = .ok (.lastore, 1) := dk_80 (dk_at dksX0_setSkip_0 9 rfl rfl)
theorem dX0_setSkip_10 : decode cX0_setSkip 10 = .ok (.goto 11, 3) := dk_167 0 11 (dk_at dksX0_setSkip_0 10 rfl rfl)
theorem dX0_setSkip_13 : decode cX0_setSkip 13 = .ok (.astore 4, 2) := dk_58 4 (dk_at dksX0_setSkip_0 13 rfl rfl)
theorem dX0_setSkip_15 : decode cX0_setSkip 15 = .ok (.iconst 1, 1) := dk_4 (dk_at dksX0_setSkip_0 15 rfl rfl)
theorem dX0_setSkip_16 : decode cX0_setSkip 16 = .ok (.ireturn, 1) := dk_172 (dk_at dksX0_setSkip_0 16 rfl rfl)
theorem dX0_setSkip_17 : decode cX0_setSkip 17 = .ok (.astore 4, 2) := dk_58 4 (dk_at dksX0_setSkip_0 17 rfl rfl)
theorem dX0_setSkip_19 : decode cX0_setSkip 19 = .ok (.iconst 2, 1) := dk_5 (dk_at dksX0_setSkip_0 19 rfl rfl)
theorem dX0_setSkip_20 : decode cX0_setSkip 20 = .ok (.ireturn, 1) := dk_172 (dk_at dksX0_setSkip_0 20 rfl rfl)
theorem dX0_setSkip_21 : decode cX0_setSkip 21 = .ok (.iconst 0, 1) := dk_3 (dk_at dksX0_setSkip_0 21 rfl rfl)
theorem dX0_setSkip_22 : decode cX0_setSkip 22 = .ok (.ireturn, 1) := dk_172 (dk_at dksX0_setSkip_0 22 rfl rfl)
abbrev cX0_setFirst : ByteArray := method_14_code
def yX0_setFirst : MethodName := ⟨RX0, "setFirst", "(LInnRoad;I[J)I"⟩
def dkwX0_setFirst_0 : List UInt8 := [44, 3, 42, 27, 182, 0, 53, 133, 80, 167, 0, 6, 78, 4, 172, 3, 172]
abbrev dktX0_setFirst_0 : List UInt8 := dkwX0_setFirst_0 ++ []
theorem dksX0_setFirst_0 : cX0_setFirst.data.toList.drop 0 = dktX0_setFirst_0 := by decide +kernel
theorem dX0_setFirst_0 : decode cX0_setFirst 0 = .ok (.aload_n 2, 1) := dk_44 (dk_at dksX0_setFirst_0 0 rfl rfl)
theorem dX0_setFirst_1 : decode cX0_setFirst 1 = .ok (.iconst 0, 1) := dk_3 (dk_at dksX0_setFirst_0 1 rfl rfl)
theorem dX0_setFirst_2 : decode cX0_setFirst 2 = .ok (.aload_n 0, 1) := dk_42 (dk_at dksX0_setFirst_0 2 rfl rfl)
theorem dX0_setFirst_3 : decode cX0_setFirst 3 = .ok (.iload_n 1, 1) := dk_27 (dk_at dksX0_setFirst_0 3 rfl rfl)
theorem dX0_setFirst_4 : decode cX0_setFirst 4 = .ok (.invokevirtual 53, 3) := dk_182 0 53 (dk_at dksX0_setFirst_0 4 rfl rfl)
theorem dX0_setFirst_7 : decode cX0_setFirst 7 = .ok (.i2l, 1) := dk_133 (dk_at dksX0_setFirst_0 7 rfl rfl)
theorem dX0_setFirst_8 : decode cX0_setFirst 8 = .ok (.lastore, 1) := dk_80 (dk_at dksX0_setFirst_0 8 rfl rfl)
theorem dX0_setFirst_9 : decode cX0_setFirst 9 = .ok (.goto 6, 3) := dk_167 0 6 (dk_at dksX0_setFirst_0 9 rfl rfl)
theorem dX0_setFirst_12 : decode cX0_setFirst 12 = .ok (.astore_n 3, 1) := dk_78 (dk_at dksX0_setFirst_0 12 rfl rfl)
theorem dX0_setFirst_13 : decode cX0_setFirst 13 = .ok (.iconst 1, 1) := dk_4 (dk_at dksX0_setFirst_0 13 rfl rfl)
theorem dX0_setFirst_14 : decode cX0_setFirst 14 = .ok (.ireturn, 1) := dk_172 (dk_at dksX0_setFirst_0 14 rfl rfl)
theorem dX0_setFirst_15 : decode cX0_setFirst 15 = .ok (.iconst 0, 1) := dk_3 (dk_at dksX0_setFirst_0 15 rfl rfl)
theorem dX0_setFirst_16 : decode cX0_setFirst 16 = .ok (.ireturn, 1) := dk_172 (dk_at dksX0_setFirst_0 16 rfl rfl)
abbrev cX0_setSecond : ByteArray := method_15_code
def yX0_setSecond : MethodName := ⟨RX0, "setSecond", "(LInnRoad;I[J)I"⟩
def dkwX0_setSecond_0 : List UInt8 := [44, 3, 42, 27, 182, 0, 56, 133, 80, 167, 0, 6, 78, 4, 172, 3, 172]
abbrev dktX0_setSecond_0 : List UInt8 := dkwX0_setSecond_0 ++ []
theorem dksX0_setSecond_0 : cX0_setSecond.data.toList.drop 0 = dktX0_setSecond_0 := by decide +kernel
theorem dX0_setSecond_0 : decode cX0_setSecond 0 = .ok (.aload_n 2, 1) := dk_44 (dk_at dksX0_setSecond_0 0 rfl rfl)
theorem dX0_setSecond_1 : decode cX0_setSecond 1 = .ok (.iconst 0, 1) := dk_3 (dk_at dksX0_setSecond_0 1 rfl rfl)
theorem dX0_setSecond_2 : decode cX0_setSecond 2 = .ok (.aload_n 0, 1) := dk_42 (dk_at dksX0_setSecond_0 2 rfl rfl)
theorem dX0_setSecond_3 : decode cX0_setSecond 3 = .ok (.iload_n 1, 1) := dk_27 (dk_at dksX0_setSecond_0 3 rfl rfl)
theorem dX0_setSecond_4 : decode cX0_setSecond 4 = .ok (.invokevirtual 56, 3) := dk_182 0 56 (dk_at dksX0_setSecond_0 4 rfl rfl)
theorem dX0_setSecond_7 : decode cX0_setSecond 7 = .ok (.i2l, 1) := dk_133 (dk_at dksX0_setSecond_0 7 rfl rfl)
theorem dX0_setSecond_8 : decode cX0_setSecond 8 = .ok (.lastore, 1) := dk_80 (dk_at dksX0_setSecond_0 8 rfl rfl)
theorem dX0_setSecond_9 : decode cX0_setSecond 9 = .ok (.goto 6, 3) := dk_167 0 6 (dk_at dksX0_setSecond_0 9 rfl rfl)
theorem dX0_setSecond_12 : decode cX0_setSecond 12 = .ok (.astore_n 3, 1) := dk_78 (dk_at dksX0_setSecond_0 12 rfl rfl)
theorem dX0_setSecond_13 : decode cX0_setSecond 13 = .ok (.iconst 1, 1) := dk_4 (dk_at dksX0_setSecond_0 13 rfl rfl)
theorem dX0_setSecond_14 : decode cX0_setSecond 14 = .ok (.ireturn, 1) := dk_172 (dk_at dksX0_setSecond_0 14 rfl rfl)
theorem dX0_setSecond_15 : decode cX0_setSecond 15 = .ok (.iconst 0, 1) := dk_3 (dk_at dksX0_setSecond_0 15 rfl rfl)
theorem dX0_setSecond_16 : decode cX0_setSecond 16 = .ok (.ireturn, 1) := dk_172 (dk_at dksX0_setSecond_0 16 rfl rfl)
abbrev cX0_setStoredCount : ByteArray := method_16_code
def yX0_setStoredCount : MethodName := ⟨RX0, "setStoredCount", "(LInnRoad;I[J)I"⟩
def dkwX0_setStoredCount_0 : List UInt8 := [44, 3, 42, 27, 182, 0, 59, 133, 80, 167, 0, 6, 78, 4, 172, 3, 172]
abbrev dktX0_setStoredCount_0 : List UInt8 := dkwX0_setStoredCount_0 ++ []
theorem dksX0_setStoredCount_0 : cX0_setStoredCount.data.toList.drop 0 = dktX0_setStoredCount_0 := by decide +kernel
theorem dX0_setStoredCount_0 : decode cX0_setStoredCount 0 = .ok (.aload_n 2, 1) := dk_44 (dk_at dksX0_setStoredCount_0 0 rfl rfl)
theorem dX0_setStoredCount_1 : decode cX0_setStoredCount 1 = .ok (.iconst 0, 1) := dk_3 (dk_at dksX0_setStoredCount_0 1 rfl rfl)
theorem dX0_setStoredCount_2 : decode cX0_setStoredCount 2 = .ok (.aload_n 0, 1) := dk_42 (dk_at dksX0_setStoredCount_0 2 rfl rfl)
theorem dX0_setStoredCount_3 : decode cX0_setStoredCount 3 = .ok (.iload_n 1, 1) := dk_27 (dk_at dksX0_setStoredCount_0 3 rfl rfl)
theorem dX0_setStoredCount_4 : decode cX0_setStoredCount 4 = .ok (.invokevirtual 59, 3) := dk_182 0 59 (dk_at dksX0_setStoredCount_0 4 rfl rfl)
theorem dX0_setStoredCount_7 : decode cX0_setStoredCount 7 = .ok (.i2l, 1) := dk_133 (dk_at dksX0_setStoredCount_0 7 rfl rfl)
theorem dX0_setStoredCount_8 : decode cX0_setStoredCount 8 = .ok (.lastore, 1) := dk_80 (dk_at dksX0_setStoredCount_0 8 rfl rfl)
theorem dX0_setStoredCount_9 : decode cX0_setStoredCount 9 = .ok (.goto 6, 3) := dk_167 0 6 (dk_at dksX0_setStoredCount_0 9 rfl rfl)
theorem dX0_setStoredCount_12 : decode cX0_setStoredCount 12 = .ok (.astore_n 3, 1) := dk_78 (dk_at dksX0_setStoredCount_0 12 rfl rfl)
theorem dX0_setStoredCount_13 : decode cX0_setStoredCount 13 = .ok (.iconst 1, 1) := dk_4 (dk_at dksX0_setStoredCount_0 13 rfl rfl)
theorem dX0_setStoredCount_14 : decode cX0_setStoredCount 14 = .ok (.ireturn, 1) := dk_172 (dk_at dksX0_setStoredCount_0 14 rfl rfl)
theorem dX0_setStoredCount_15 : decode cX0_setStoredCount 15 = .ok (.iconst 0, 1) := dk_3 (dk_at dksX0_setStoredCount_0 15 rfl rfl)
theorem dX0_setStoredCount_16 : decode cX0_setStoredCount 16 = .ok (.ireturn, 1) := dk_172 (dk_at dksX0_setStoredCount_0 16 rfl rfl)
abbrev cX0_repair : ByteArray := method_17_code
def yX0_repair : MethodName := ⟨RX0, "repair", "(LInnRoad;[J)I"⟩
def dkwX0_repair_0 : List UInt8 := [43, 3, 42, 182, 0, 62, 133, 80, 167, 0, 6, 77, 4, 172, 3, 172]
abbrev dktX0_repair_0 : List UInt8 := dkwX0_repair_0 ++ []
theorem dksX0_repair_0 : cX0_repair.data.toList.drop 0 = dktX0_repair_0 := by decide +kernel
theorem dX0_repair_0 : decode cX0_repair 0 = .ok (.aload_n 1, 1) := dk_43 (dk_at dksX0_repair_0 0 rfl rfl)
theorem dX0_repair_1 : decode cX0_repair 1 = .ok (.iconst 0, 1) := dk_3 (dk_at dksX0_repair_0 1 rfl rfl)
theorem dX0_repair_2 : decode cX0_repair 2 = .ok (.aload_n 0, 1) := dk_42 (dk_at dksX0_repair_0 2 rfl rfl)
theorem dX0_repair_3 : decode cX0_repair 3 = .ok (.invokevirtual 62, 3) := dk_182 0 62 (dk_at dksX0_repair_0 3 rfl rfl)
theorem dX0_repair_6 : decode cX0_repair 6 = .ok (.i2l, 1) := dk_133 (dk_at dksX0_repair_0 6 rfl rfl)
theorem dX0_repair_7 : decode cX0_repair 7 = .ok (.lastore, 1) := dk_80 (dk_at dksX0_repair_0 7 rfl rfl)
theorem dX0_repair_8 : decode cX0_repair 8 = .ok (.goto 6, 3) := dk_167 0 6 (dk_at dksX0_repair_0 8 rfl rfl)
theorem dX0_repair_11 : decode cX0_repair 11 = .ok (.astore_n 2, 1) := dk_77 (dk_at dksX0_repair_0 11 rfl rfl)
theorem dX0_repair_12 : decode cX0_repair 12 = .ok (.iconst 1, 1) := dk_4 (dk_at dksX0_repair_0 12 rfl rfl)
theorem dX0_repair_13 : decode cX0_repair 13 = .ok (.ireturn, 1) := dk_172 (dk_at dksX0_repair_0 13 rfl rfl)
theorem dX0_repair_14 : decode cX0_repair 14 = .ok (.iconst 0, 1) := dk_3 (dk_at dksX0_repair_0 14 rfl rfl)
theorem dX0_repair_15 : decode cX0_repair 15 = .ok (.ireturn, 1) := dk_172 (dk_at dksX0_repair_0 15 rfl rfl)
abbrev cX0_leaveLetters : ByteArray := method_18_code
def yX0_leaveLetters : MethodName := ⟨RX0, "leaveLetters", "(LInnRoad;II[J)I"⟩
def dkwX0_leaveLetters_1 : List UInt8 := [172, 3, 172]
abbrev dktX0_leaveLetters_1 : List UInt8 := dkwX0_leaveLetters_1 ++ []
def dkwX0_leaveLetters_0 : List UInt8 := [45, 3, 42, 27, 28, 182, 0, 65, 133, 80, 167, 0, 15, 58, 4, 4, 172, 58, 4, 5, 172, 58, 4, 6]
abbrev dktX0_leaveLetters_0 : List UInt8 := dkwX0_leaveLetters_0 ++ dktX0_leaveLetters_1
theorem dksX0_leaveLetters_0 : cX0_leaveLetters.data.toList.drop 0 = dktX0_leaveLetters_0 := by decide +kernel
theorem dksX0_leaveLetters_1 : cX0_leaveLetters.data.toList.drop 24 = dktX0_leaveLetters_1 := dk_seg dksX0_leaveLetters_0 24 rfl rfl
theorem dX0_leaveLetters_0 : decode cX0_leaveLetters 0 = .ok (.aload_n 3, 1) := dk_45 (dk_at dksX0_leaveLetters_0 0 rfl rfl)
theorem dX0_leaveLetters_1 : decode cX0_leaveLetters 1 = .ok (.iconst 0, 1) := dk_3 (dk_at dksX0_leaveLetters_0 1 rfl rfl)
theorem dX0_leaveLetters_2 : decode cX0_leaveLetters 2 = .ok (.aload_n 0, 1) := dk_42 (dk_at dksX0_leaveLetters_0 2 rfl rfl)
theorem dX0_leaveLetters_3 : decode cX0_leaveLetters 3 = .ok (.iload_n 1, 1) := dk_27 (dk_at dksX0_leaveLetters_0 3 rfl rfl)
theorem dX0_leaveLetters_4 : decode cX0_leaveLetters 4 = .ok (.iload_n 2, 1) := dk_28 (dk_at dksX0_leaveLetters_0 4 rfl rfl)
theorem dX0_leaveLetters_5 : decode cX0_leaveLetters 5 = .ok (.invokevirtual 65, 3) := dk_182 0 65 (dk_at dksX0_leaveLetters_0 5 rfl rfl)
theorem dX0_leaveLetters_8 : decode cX0_leaveLetters 8 = .ok (.i2l, 1) := dk_133 (dk_at dksX0_leaveLetters_0 8 rfl rfl)
theorem dX0_leaveLetters_9 : decode cX0_leaveLetters 9 = .ok (.lastore, 1) := dk_80 (dk_at dksX0_leaveLetters_0 9 rfl rfl)
theorem dX0_leaveLetters_10 : decode cX0_leaveLetters 10 = .ok (.goto 15, 3) := dk_167 0 15 (dk_at dksX0_leaveLetters_0 10 rfl rfl)
theorem dX0_leaveLetters_13 : decode cX0_leaveLetters 13 = .ok (.astore 4, 2) := dk_58 4 (dk_at dksX0_leaveLetters_0 13 rfl rfl)
theorem dX0_leaveLetters_15 : decode cX0_leaveLetters 15 = .ok (.iconst 1, 1) := dk_4 (dk_at dksX0_leaveLetters_0 15 rfl rfl)
theorem dX0_leaveLetters_16 : decode cX0_leaveLetters 16 = .ok (.ireturn, 1) := dk_172 (dk_at dksX0_leaveLetters_0 16 rfl rfl)
theorem dX0_leaveLetters_17 : decode cX0_leaveLetters 17 = .ok (.astore 4, 2) := dk_58 4 (dk_at dksX0_leaveLetters_0 17 rfl rfl)
theorem dX0_leaveLetters_19 : decode cX0_leaveLetters 19 = .ok (.iconst 2, 1) := dk_5 (dk_at dksX0_leaveLetters_0 19 rfl rfl)
theorem dX0_leaveLetters_20 : decode cX0_leaveLetters 20 = .ok (.ireturn, 1) := dk_172 (dk_at dksX0_leaveLetters_0 20 rfl rfl)
theorem dX0_leaveLetters_21 : decode cX0_leaveLetters 21 = .ok (.astore 4, 2) := dk_58 4 (dk_at dksX0_leaveLetters_0 21 rfl rfl)
theorem dX0_leaveLetters_23 : decode cX0_leaveLetters 23 = .ok (.iconst 3, 1) := dk_6 (dk_at dksX0_leaveLetters_0 23 rfl rfl)
theorem dX0_leaveLetters_24 : decode cX0_leaveLetters 24 = .ok (.ireturn, 1) := dk_172 (dk_at dksX0_leaveLetters_1 0 rfl rfl)
theorem dX0_leaveLetters_25 : decode cX0_leaveLetters 25 = .ok (.iconst 0, 1) := dk_3 (dk_at dksX0_leaveLetters_1 1 rfl rfl)
theorem dX0_leaveLetters_26 : decode cX0_leaveLetters 26 = .ok (.ireturn, 1) := dk_172 (dk_at dksX0_leaveLetters_1 2 rfl rfl)
abbrev cX0_send : ByteArray := method_19_code
def yX0_send : MethodName := ⟨RX0, "send", "(LInnRoad;II[J)I"⟩
def dkwX0_send_1 : List UInt8 := [172, 3, 172]
abbrev dktX0_send_1 : List UInt8 := dkwX0_send_1 ++ []
def dkwX0_send_0 : List UInt8 := [45, 3, 42, 27, 28, 182, 0, 68, 133, 80, 167, 0, 15, 58, 4, 4, 172, 58, 4, 5, 172, 58, 4, 6]
abbrev dktX0_send_0 : List UInt8 := dkwX0_send_0 ++ dktX0_send_1
theorem dksX0_send_0 : cX0_send.data.toList.drop 0 = dktX0_send_0 := by decide +kernel
theorem dksX0_send_1 : cX0_send.data.toList.drop 24 = dktX0_send_1 := dk_seg dksX0_send_0 24 rfl rfl
theorem dX0_send_0 : decode cX0_send 0 = .ok (.aload_n 3, 1) := dk_45 (dk_at dksX0_send_0 0 rfl rfl)
theorem dX0_send_1 : decode cX0_send 1 = .ok (.iconst 0, 1) := dk_3 (dk_at dksX0_send_0 1 rfl rfl)
theorem dX0_send_2 : decode cX0_send 2 = .ok (.aload_n 0, 1) := dk_42 (dk_at dksX0_send_0 2 rfl rfl)
theorem dX0_send_3 : decode cX0_send 3 = .ok (.iload_n 1, 1) := dk_27 (dk_at dksX0_send_0 3 rfl rfl)
theorem dX0_send_4 : decode cX0_send 4 = .ok (.iload_n 2, 1) := dk_28 (dk_at dksX0_send_0 4 rfl rfl)
theorem dX0_send_5 : decode cX0_send 5 = .ok (.invokevirtual 68, 3) := dk_182 0 68 (dk_at dksX0_send_0 5 rfl rfl)
theorem dX0_send_8 : decode cX0_send 8 = .ok (.i2l, 1) := dk_133 (dk_at dksX0_send_0 8 rfl rfl)
theorem dX0_send_9 : decode cX0_send 9 = .ok (.lastore, 1) := dk_80 (dk_at dksX0_send_0 9 rfl rfl)
theorem dX0_send_10 : decode cX0_send 10 = .ok (.goto 15, 3) := dk_167 0 15 (dk_at dksX0_send_0 10 rfl rfl)
theorem dX0_send_13 : decode cX0_send 13 = .ok (.astore 4, 2) := dk_58 4 (dk_at dksX0_send_0 13 rfl rfl)
theorem dX0_send_15 : decode cX0_send 15 = .ok (.iconst 1, 1) := dk_4 (dk_at dksX0_send_0 15 rfl rfl)
theorem dX0_send_16 : decode cX0_send 16 = .ok (.ireturn, 1) := dk_172 (dk_at dksX0_send_0 16 rfl rfl)
theorem dX0_send_17 : decode cX0_send 17 = .ok (.astore 4, 2) := dk_58 4 (dk_at dksX0_send_0 17 rfl rfl)
theorem dX0_send_19 : decode cX0_send 19 = .ok (.iconst 2, 1) := dk_5 (dk_at dksX0_send_0 19 rfl rfl)
theorem dX0_send_20 : decode cX0_send 20 = .ok (.ireturn, 1) := dk_172 (dk_at dksX0_send_0 20 rfl rfl)
theorem dX0_send_21 : decode cX0_send 21 = .ok (.astore 4, 2) := dk_58 4 (dk_at dksX0_send_0 21 rfl rfl)
theorem dX0_send_23 : decode cX0_send 23 = .ok (.iconst 3, 1) := dk_6 (dk_at dksX0_send_0 23 rfl rfl)
theorem dX0_send_24 : decode cX0_send 24 = .ok (.ireturn, 1) := dk_172 (dk_at dksX0_send_1 0 rfl rfl)
theorem dX0_send_25 : decode cX0_send 25 = .ok (.iconst 0, 1) := dk_3 (dk_at dksX0_send_1 1 rfl rfl)
theorem dX0_send_26 : decode cX0_send 26 = .ok (.ireturn, 1) := dk_172 (dk_at dksX0_send_1 2 rfl rfl)
abbrev cX0_restore : ByteArray := method_20_code
def yX0_restore : MethodName := ⟨RX0, "restore", "(LInnRoad;[J)I"⟩
def dkwX0_restore_0 : List UInt8 := [43, 3, 42, 182, 0, 71, 133, 80, 167, 0, 6, 77, 4, 172, 3, 172]
abbrev dktX0_restore_0 : List UInt8 := dkwX0_restore_0 ++ []
theorem dksX0_restore_0 : cX0_restore.data.toList.drop 0 = dktX0_restore_0 := by decide +kernel
theorem dX0_restore_0 : decode cX0_restore 0 = .ok (.aload_n 1, 1) := dk_43 (dk_at dksX0_restore_0 0 rfl rfl)
theorem dX0_restore_1 : decode cX0_restore 1 = .ok (.iconst 0, 1) := dk_3 (dk_at dksX0_restore_0 1 rfl rfl)
theorem dX0_restore_2 : decode cX0_restore 2 = .ok (.aload_n 0, 1) := dk_42 (dk_at dksX0_restore_0 2 rfl rfl)
theorem dX0_restore_3 : decode cX0_restore 3 = .ok (.invokevirtual 71, 3) := dk_182 0 71 (dk_at dksX0_restore_0 3 rfl rfl)
theorem dX0_restore_6 : decode cX0_restore 6 = .ok (.i2l, 1) := dk_133 (dk_at dksX0_restore_0 6 rfl rfl)
theorem dX0_restore_7 : decode cX0_restore 7 = .ok (.lastore, 1) := dk_80 (dk_at dksX0_restore_0 7 rfl rfl)
theorem dX0_restore_8 : decode cX0_restore 8 = .ok (.goto 6, 3) := dk_167 0 6 (dk_at dksX0_restore_0 8 rfl rfl)
theorem dX0_restore_11 : decode cX0_restore 11 = .ok (.astore_n 2, 1) := dk_77 (dk_at dksX0_restore_0 11 rfl rfl)
theorem dX0_restore_12 : decode cX0_restore 12 = .ok (.iconst 1, 1) := dk_4 (dk_at dksX0_restore_0 12 rfl rfl)
theorem dX0_restore_13 : decode cX0_restore 13 = .ok (.ireturn, 1) := dk_172 (dk_at dksX0_restore_0 13 rfl rfl)
theorem dX0_restore_14 : decode cX0_restore 14 = .ok (.iconst 0, 1) := dk_3 (dk_at dksX0_restore_0 14 rfl rfl)
theorem dX0_restore_15 : decode cX0_restore 15 = .ok (.ireturn, 1) := dk_172 (dk_at dksX0_restore_0 15 rfl rfl)
abbrev cX0_undo : ByteArray := method_21_code
def yX0_undo : MethodName := ⟨RX0, "undo", "(LInnRoad;[J)I"⟩
def dkwX0_undo_0 : List UInt8 := [43, 3, 42, 182, 0, 74, 133, 80, 167, 0, 6, 77, 4, 172, 3, 172]
abbrev dktX0_undo_0 : List UInt8 := dkwX0_undo_0 ++ []
theorem dksX0_undo_0 : cX0_undo.data.toList.drop 0 = dktX0_undo_0 := by decide +kernel
theorem dX0_undo_0 : decode cX0_undo 0 = .ok (.aload_n 1, 1) := dk_43 (dk_at dksX0_undo_0 0 rfl rfl)
theorem dX0_undo_1 : decode cX0_undo 1 = .ok (.iconst 0, 1) := dk_3 (dk_at dksX0_undo_0 1 rfl rfl)
theorem dX0_undo_2 : decode cX0_undo 2 = .ok (.aload_n 0, 1) := dk_42 (dk_at dksX0_undo_0 2 rfl rfl)
theorem dX0_undo_3 : decode cX0_undo 3 = .ok (.invokevirtual 74, 3) := dk_182 0 74 (dk_at dksX0_undo_0 3 rfl rfl)
theorem dX0_undo_6 : decode cX0_undo 6 = .ok (.i2l, 1) := dk_133 (dk_at dksX0_undo_0 6 rfl rfl)
theorem dX0_undo_7 : decode cX0_undo 7 = .ok (.lastore, 1) := dk_80 (dk_at dksX0_undo_0 7 rfl rfl)
theorem dX0_undo_8 : decode cX0_undo 8 = .ok (.goto 6, 3) := dk_167 0 6 (dk_at dksX0_undo_0 8 rfl rfl)
theorem dX0_undo_11 : decode cX0_undo 11 = .ok (.astore_n 2, 1) := dk_77 (dk_at dksX0_undo_0 11 rfl rfl)
theorem dX0_undo_12 : decode cX0_undo 12 = .ok (.iconst 1, 1) := dk_4 (dk_at dksX0_undo_0 12 rfl rfl)
theorem dX0_undo_13 : decode cX0_undo 13 = .ok (.ireturn, 1) := dk_172 (dk_at dksX0_undo_0 13 rfl rfl)
theorem dX0_undo_14 : decode cX0_undo 14 = .ok (.iconst 0, 1) := dk_3 (dk_at dksX0_undo_0 14 rfl rfl)
theorem dX0_undo_15 : decode cX0_undo 15 = .ok (.ireturn, 1) := dk_172 (dk_at dksX0_undo_0 15 rfl rfl)
abbrev cX0_hasInn : ByteArray := method_22_code
def yX0_hasInn : MethodName := ⟨RX0, "hasInn", "(LInnRoad;I[J)I"⟩
def dkwX0_hasInn_0 : List UInt8 := [44, 3, 42, 27, 182, 0, 77, 153, 0, 7, 10, 167, 0, 4, 9, 80, 167, 0, 6, 78, 4, 172, 3, 172]
abbrev dktX0_hasInn_0 : List UInt8 := dkwX0_hasInn_0 ++ []
theorem dksX0_hasInn_0 : cX0_hasInn.data.toList.drop 0 = dktX0_hasInn_0 := by decide +kernel
theorem dX0_hasInn_0 : decode cX0_hasInn 0 = .ok (.aload_n 2, 1) := dk_44 (dk_at dksX0_hasInn_0 0 rfl rfl)
theorem dX0_hasInn_1 : decode cX0_hasInn 1 = .ok (.iconst 0, 1) := dk_3 (dk_at dksX0_hasInn_0 1 rfl rfl)
theorem dX0_hasInn_2 : decode cX0_hasInn 2 = .ok (.aload_n 0, 1) := dk_42 (dk_at dksX0_hasInn_0 2 rfl rfl)
theorem dX0_hasInn_3 : decode cX0_hasInn 3 = .ok (.iload_n 1, 1) := dk_27 (dk_at dksX0_hasInn_0 3 rfl rfl)
theorem dX0_hasInn_4 : decode cX0_hasInn 4 = .ok (.invokevirtual 77, 3) := dk_182 0 77 (dk_at dksX0_hasInn_0 4 rfl rfl)
theorem dX0_hasInn_7 : decode cX0_hasInn 7 = .ok (.ifCond .eq 7, 3) := dk_153 0 7 (dk_at dksX0_hasInn_0 7 rfl rfl)
theorem dX0_hasInn_10 : decode cX0_hasInn 10 = .ok (.lconst 1, 1) := dk_10 (dk_at dksX0_hasInn_0 10 rfl rfl)
theorem dX0_hasInn_11 : decode cX0_hasInn 11 = .ok (.goto 4, 3) := dk_167 0 4 (dk_at dksX0_hasInn_0 11 rfl rfl)
theorem dX0_hasInn_14 : decode cX0_hasInn 14 = .ok (.lconst 0, 1) := dk_9 (dk_at dksX0_hasInn_0 14 rfl rfl)
theorem dX0_hasInn_15 : decode cX0_hasInn 15 = .ok (.lastore, 1) := dk_80 (dk_at dksX0_hasInn_0 15 rfl rfl)
theorem dX0_hasInn_16 : decode cX0_hasInn 16 = .ok (.goto 6, 3) := dk_167 0 6 (dk_at dksX0_hasInn_0 16 rfl rfl)
theorem dX0_hasInn_19 : decode cX0_hasInn 19 = .ok (.astore_n 3, 1) := dk_78 (dk_at dksX0_hasInn_0 19 rfl rfl)
theorem dX0_hasInn_20 : decode cX0_hasInn 20 = .ok (.iconst 1, 1) := dk_4 (dk_at dksX0_hasInn_0 20 rfl rfl)
theorem dX0_hasInn_21 : decode cX0_hasInn 21 = .ok (.ireturn, 1) := dk_172 (dk_at dksX0_hasInn_0 21 rfl rfl)
theorem dX0_hasInn_22 : decode cX0_hasInn 22 = .ok (.iconst 0, 1) := dk_3 (dk_at dksX0_hasInn_0 22 rfl rfl)
theorem dX0_hasInn_23 : decode cX0_hasInn 23 = .ok (.ireturn, 1) := dk_172 (dk_at dksX0_hasInn_0 23 rfl rfl)
abbrev cX0_mile : ByteArray := method_23_code
def yX0_mile : MethodName := ⟨RX0, "mile", "(LInnRoad;I[J)I"⟩
def dkwX0_mile_0 : List UInt8 := [44, 3, 42, 27, 182, 0, 80, 133, 80, 167, 0, 6, 78, 4, 172, 3, 172]
abbrev dktX0_mile_0 : List UInt8 := dkwX0_mile_0 ++ []
theorem dksX0_mile_0 : cX0_mile.data.toList.drop 0 = dktX0_mile_0 := by decide +kernel
theorem dX0_mile_0 : decode cX0_mile 0 = .ok (.aload_n 2, 1) := dk_44 (dk_at dksX0_mile_0 0 rfl rfl)
theorem dX0_mile_1 : decode cX0_mile 1 = .ok (.iconst 0, 1) := dk_3 (dk_at dksX0_mile_0 1 rfl rfl)
theorem dX0_mile_2 : decode cX0_mile 2 = .ok (.aload_n 0, 1) := dk_42 (dk_at dksX0_mile_0 2 rfl rfl)
theorem dX0_mile_3 : decode cX0_mile 3 = .ok (.iload_n 1, 1) := dk_27 (dk_at dksX0_mile_0 3 rfl rfl)
theorem dX0_mile_4 : decode cX0_mile 4 = .ok (.invokevirtual 80, 3) := dk_182 0 80 (dk_at dksX0_mile_0 4 rfl rfl)
theorem dX0_mile_7 : decode cX0_mile 7 = .ok (.i2l, 1) := dk_133 (dk_at dksX0_mile_0 7 rfl rfl)
theorem dX0_mile_8 : decode cX0_mile 8 = .ok (.lastore, 1) := dk_80 (dk_at dksX0_mile_0 8 rfl rfl)
theorem dX0_mile_9 : decode cX0_mile 9 = .ok (.goto 6, 3) := dk_167 0 6 (dk_at dksX0_mile_0 9 rfl rfl)
theorem dX0_mile_12 : decode cX0_mile 12 = .ok (.astore_n 3, 1) := dk_78 (dk_at dksX0_mile_0 12 rfl rfl)
theorem dX0_mile_13 : decode cX0_mile 13 = .ok (.iconst 1, 1) := dk_4 (dk_at dksX0_mile_0 13 rfl rfl)
theorem dX0_mile_14 : decode cX0_mile 14 = .ok (.ireturn, 1) := dk_172 (dk_at dksX0_mile_0 14 rfl rfl)
theorem dX0_mile_15 : decode cX0_mile 15 = .ok (.iconst 0, 1) := dk_3 (dk_at dksX0_mile_0 15 rfl rfl)
theorem dX0_mile_16 : decode cX0_mile 16 = .ok (.ireturn, 1) := dk_172 (dk_at dksX0_mile_0 16 rfl rfl)
abbrev cX0_next : ByteArray := method_24_code
def yX0_next : MethodName := ⟨RX0, "next", "(LInnRoad;I[J)I"⟩
def dkwX0_next_0 : List UInt8 := [44, 3, 42, 27, 182, 0, 83, 133, 80, 167, 0, 6, 78, 4, 172, 3, 172]
abbrev dktX0_next_0 : List UInt8 := dkwX0_next_0 ++ []
theorem dksX0_next_0 : cX0_next.data.toList.drop 0 = dktX0_next_0 := by decide +kernel
theorem dX0_next_0 : decode cX0_next 0 = .ok (.aload_n 2, 1) := dk_44 (dk_at dksX0_next_0 0 rfl rfl)
theorem dX0_next_1 : decode cX0_next 1 = .ok (.iconst 0, 1) := dk_3 (dk_at dksX0_next_0 1 rfl rfl)
theorem dX0_next_2 : decode cX0_next 2 = .ok (.aload_n 0, 1) := dk_42 (dk_at dksX0_next_0 2 rfl rfl)
theorem dX0_next_3 : decode cX0_next 3 = .ok (.iload_n 1, 1) := dk_27 (dk_at dksX0_next_0 3 rfl rfl)
theorem dX0_next_4 : decode cX0_next 4 = .ok (.invokevirtual 83, 3) := dk_182 0 83 (dk_at dksX0_next_0 4 rfl rfl)
theorem dX0_next_7 : decode cX0_next 7 = .ok (.i2l, 1) := dk_133 (dk_at dksX0_next_0 7 rfl rfl)
theorem dX0_next_8 : decode cX0_next 8 = .ok (.lastore, 1) := dk_80 (dk_at dksX0_next_0 8 rfl rfl)
theorem dX0_next_9 : decode cX0_next 9 = .ok (.goto 6, 3) := dk_167 0 6 (dk_at dksX0_next_0 9 rfl rfl)
theorem dX0_next_12 : decode cX0_next 12 = .ok (.astore_n 3, 1) := dk_78 (dk_at dksX0_next_0 12 rfl rfl)
theorem dX0_next_13 : decode cX0_next 13 = .ok (.iconst 1, 1) := dk_4 (dk_at dksX0_next_0 13 rfl rfl)
theorem dX0_next_14 : decode cX0_next 14 = .ok (.ireturn, 1) := dk_172 (dk_at dksX0_next_0 14 rfl rfl)
theorem dX0_next_15 : decode cX0_next 15 = .ok (.iconst 0, 1) := dk_3 (dk_at dksX0_next_0 15 rfl rfl)
theorem dX0_next_16 : decode cX0_next 16 = .ok (.ireturn, 1) := dk_172 (dk_at dksX0_next_0 16 rfl rfl)
abbrev cX0_skip : ByteArray := method_25_code
def yX0_skip : MethodName := ⟨RX0, "skip", "(LInnRoad;I[J)I"⟩
def dkwX0_skip_0 : List UInt8 := [44, 3, 42, 27, 182, 0, 86, 133, 80, 167, 0, 6, 78, 4, 172, 3, 172]
abbrev dktX0_skip_0 : List UInt8 := dkwX0_skip_0 ++ []
theorem dksX0_skip_0 : cX0_skip.data.toList.drop 0 = dktX0_skip_0 := by decide +kernel
theorem dX0_skip_0 : decode cX0_skip 0 = .ok (.aload_n 2, 1) := dk_44 (dk_at dksX0_skip_0 0 rfl rfl)
theorem dX0_skip_1 : decode cX0_skip 1 = .ok (.iconst 0, 1) := dk_3 (dk_at dksX0_skip_0 1 rfl rfl)
theorem dX0_skip_2 : decode cX0_skip 2 = .ok (.aload_n 0, 1) := dk_42 (dk_at dksX0_skip_0 2 rfl rfl)
theorem dX0_skip_3 : decode cX0_skip 3 = .ok (.iload_n 1, 1) := dk_27 (dk_at dksX0_skip_0 3 rfl rfl)
theorem dX0_skip_4 : decode cX0_skip 4 = .ok (.invokevirtual 86, 3) := dk_182 0 86 (dk_at dksX0_skip_0 4 rfl rfl)
theorem dX0_skip_7 : decode cX0_skip 7 = .ok (.i2l, 1) := dk_133 (dk_at dksX0_skip_0 7 rfl rfl)
theorem dX0_skip_8 : decode cX0_skip 8 = .ok (.lastore, 1) := dk_80 (dk_at dksX0_skip_0 8 rfl rfl)
theorem dX0_skip_9 : decode cX0_skip 9 = .ok (.goto 6, 3) := dk_167 0 6 (dk_at dksX0_skip_0 9 rfl rfl)
theorem dX0_skip_12 : decode cX0_skip 12 = .ok (.astore_n 3, 1) := dk_78 (dk_at dksX0_skip_0 12 rfl rfl)
theorem dX0_skip_13 : decode cX0_skip 13 = .ok (.iconst 1, 1) := dk_4 (dk_at dksX0_skip_0 13 rfl rfl)
theorem dX0_skip_14 : decode cX0_skip 14 = .ok (.ireturn, 1) := dk_172 (dk_at dksX0_skip_0 14 rfl rfl)
theorem dX0_skip_15 : decode cX0_skip 15 = .ok (.iconst 0, 1) := dk_3 (dk_at dksX0_skip_0 15 rfl rfl)
theorem dX0_skip_16 : decode cX0_skip 16 = .ok (.ireturn, 1) := dk_172 (dk_at dksX0_skip_0 16 rfl rfl)
abbrev cX0_isOpen : ByteArray := method_26_code
def yX0_isOpen : MethodName := ⟨RX0, "isOpen", "(LInnRoad;I[J)I"⟩
def dkwX0_isOpen_0 : List UInt8 := [44, 3, 42, 27, 182, 0, 89, 153, 0, 7, 10, 167, 0, 4, 9, 80, 167, 0, 6, 78, 4, 172, 3, 172]
abbrev dktX0_isOpen_0 : List UInt8 := dkwX0_isOpen_0 ++ []
theorem dksX0_isOpen_0 : cX0_isOpen.data.toList.drop 0 = dktX0_isOpen_0 := by decide +kernel
theorem dX0_isOpen_0 : decode cX0_isOpen 0 = .ok (.aload_n 2, 1) := dk_44 (dk_at dksX0_isOpen_0 0 rfl rfl)
theorem dX0_isOpen_1 : decode cX0_isOpen 1 = .ok (.iconst 0, 1) := dk_3 (dk_at dksX0_isOpen_0 1 rfl rfl)
theorem dX0_isOpen_2 : decode cX0_isOpen 2 = .ok (.aload_n 0, 1) := dk_42 (dk_at dksX0_isOpen_0 2 rfl rfl)
theorem dX0_isOpen_3 : decode cX0_isOpen 3 = .ok (.iload_n 1, 1) := dk_27 (dk_at dksX0_isOpen_0 3 rfl rfl)
theorem dX0_isOpen_4 : decode cX0_isOpen 4 = .ok (.invokevirtual 89, 3) := dk_182 0 89 (dk_at dksX0_isOpen_0 4 rfl rfl)
theorem dX0_isOpen_7 : decode cX0_isOpen 7 = .ok (.ifCond .eq 7, 3) := dk_153 0 7 (dk_at dksX0_isOpen_0 7 rfl rfl)
theorem dX0_isOpen_10 : decode cX0_isOpen 10 = .ok (.lconst 1, 1) := dk_10 (dk_at dksX0_isOpen_0 10 rfl rfl)
theorem dX0_isOpen_11 : decode cX0_isOpen 11 = .ok (.goto 4, 3) := dk_167 0 4 (dk_at dksX0_isOpen_0 11 rfl rfl)
theorem dX0_isOpen_14 : decode cX0_isOpen 14 = .ok (.lconst 0, 1) := dk_9 (dk_at dksX0_isOpen_0 14 rfl rfl)
theorem dX0_isOpen_15 : decode cX0_isOpen 15 = .ok (.lastore, 1) := dk_80 (dk_at dksX0_isOpen_0 15 rfl rfl)
theorem dX0_isOpen_16 : decode cX0_isOpen 16 = .ok (.goto 6, 3) := dk_167 0 6 (dk_at dksX0_isOpen_0 16 rfl rfl)
theorem dX0_isOpen_19 : decode cX0_isOpen 19 = .ok (.astore_n 3, 1) := dk_78 (dk_at dksX0_isOpen_0 19 rfl rfl)
theorem dX0_isOpen_20 : decode cX0_isOpen 20 = .ok (.iconst 1, 1) := dk_4 (dk_at dksX0_isOpen_0 20 rfl rfl)
theorem dX0_isOpen_21 : decode cX0_isOpen 21 = .ok (.ireturn, 1) := dk_172 (dk_at dksX0_isOpen_0 21 rfl rfl)
theorem dX0_isOpen_22 : decode cX0_isOpen 22 = .ok (.iconst 0, 1) := dk_3 (dk_at dksX0_isOpen_0 22 rfl rfl)
theorem dX0_isOpen_23 : decode cX0_isOpen 23 = .ok (.ireturn, 1) := dk_172 (dk_at dksX0_isOpen_0 23 rfl rfl)
abbrev cX0_letters : ByteArray := method_27_code
def yX0_letters : MethodName := ⟨RX0, "letters", "(LInnRoad;I[J)I"⟩
def dkwX0_letters_0 : List UInt8 := [44, 3, 42, 27, 182, 0, 92, 133, 80, 167, 0, 6, 78, 4, 172, 3, 172]
abbrev dktX0_letters_0 : List UInt8 := dkwX0_letters_0 ++ []
theorem dksX0_letters_0 : cX0_letters.data.toList.drop 0 = dktX0_letters_0 := by decide +kernel
theorem dX0_letters_0 : decode cX0_letters 0 = .ok (.aload_n 2, 1) := dk_44 (dk_at dksX0_letters_0 0 rfl rfl)
theorem dX0_letters_1 : decode cX0_letters 1 = .ok (.iconst 0, 1) := dk_3 (dk_at dksX0_letters_0 1 rfl rfl)
theorem dX0_letters_2 : decode cX0_letters 2 = .ok (.aload_n 0, 1) := dk_42 (dk_at dksX0_letters_0 2 rfl rfl)
theorem dX0_letters_3 : decode cX0_letters 3 = .ok (.iload_n 1, 1) := dk_27 (dk_at dksX0_letters_0 3 rfl rfl)
theorem dX0_letters_4 : decode cX0_letters 4 = .ok (.invokevirtual 92, 3) := dk_182 0 92 (dk_at dksX0_letters_0 4 rfl rfl)
theorem dX0_letters_7 : decode cX0_letters 7 = .ok (.i2l, 1) := dk_133 (dk_at dksX0_letters_0 7 rfl rfl)
theorem dX0_letters_8 : decode cX0_letters 8 = .ok (.lastore, 1) := dk_80 (dk_at dksX0_letters_0 8 rfl rfl)
theorem dX0_letters_9 : decode cX0_letters 9 = .ok (.goto 6, 3) := dk_167 0 6 (dk_at dksX0_letters_0 9 rfl rfl)
theorem dX0_letters_12 : decode cX0_letters 12 = .ok (.astore_n 3, 1) := dk_78 (dk_at dksX0_letters_0 12 rfl rfl)
theorem dX0_letters_13 : decode cX0_letters 13 = .ok (.iconst 1, 1) := dk_4 (dk_at dksX0_letters_0 13 rfl rfl)
theorem dX0_letters_14 : decode cX0_letters 14 = .ok (.ireturn, 1) := dk_172 (dk_at dksX0_letters_0 14 rfl rfl)
theorem dX0_letters_15 : decode cX0_letters 15 = .ok (.iconst 0, 1) := dk_3 (dk_at dksX0_letters_0 15 rfl rfl)
theorem dX0_letters_16 : decode cX0_letters 16 = .ok (.ireturn, 1) := dk_172 (dk_at dksX0_letters_0 16 rfl rfl)
abbrev cX0_chainInn : ByteArray := method_28_code
def yX0_chainInn : MethodName := ⟨RX0, "chainInn", "(LInnRoad;I[J)I"⟩
def dkwX0_chainInn_0 : List UInt8 := [44, 3, 42, 27, 182, 0, 95, 133, 80, 167, 0, 6, 78, 4, 172, 3, 172]
abbrev dktX0_chainInn_0 : List UInt8 := dkwX0_chainInn_0 ++ []
theorem dksX0_chainInn_0 : cX0_chainInn.data.toList.drop 0 = dktX0_chainInn_0 := by decide +kernel
theorem dX0_chainInn_0 : decode cX0_chainInn 0 = .ok (.aload_n 2, 1) := dk_44 (dk_at dksX0_chainInn_0 0 rfl rfl)
theorem dX0_chainInn_1 : decode cX0_chainInn 1 = .ok (.iconst 0, 1) := dk_3 (dk_at dksX0_chainInn_0 1 rfl rfl)
theorem dX0_chainInn_2 : decode cX0_chainInn 2 = .ok (.aload_n 0, 1) := dk_42 (dk_at dksX0_chainInn_0 2 rfl rfl)
theorem dX0_chainInn_3 : decode cX0_chainInn 3 = .ok (.iload_n 1, 1) := dk_27 (dk_at dksX0_chainInn_0 3 rfl rfl)
theorem dX0_chainInn_4 : decode cX0_chainInn 4 = .ok (.invokevirtual 95, 3) := dk_182 0 95 (dk_at dksX0_chainInn_0 4 rfl rfl)
theorem dX0_chainInn_7 : decode cX0_chainInn 7 = .ok (.i2l, 1) := dk_133 (dk_at dksX0_chainInn_0 7 rfl rfl)
theorem dX0_chainInn_8 : decode cX0_chainInn 8 = .ok (.lastore, 1) := dk_80 (dk_at dksX0_chainInn_0 8 rfl rfl)
theorem dX0_chainInn_9 : decode cX0_chainInn 9 = .ok (.goto 6, 3) := dk_167 0 6 (dk_at dksX0_chainInn_0 9 rfl rfl)
theorem dX0_chainInn_12 : decode cX0_chainInn 12 = .ok (.astore_n 3, 1) := dk_78 (dk_at dksX0_chainInn_0 12 rfl rfl)
theorem dX0_chainInn_13 : decode cX0_chainInn 13 = .ok (.iconst 1, 1) := dk_4 (dk_at dksX0_chainInn_0 13 rfl rfl)
theorem dX0_chainInn_14 : decode cX0_chainInn 14 = .ok (.ireturn, 1) := dk_172 (dk_at dksX0_chainInn_0 14 rfl rfl)
theorem dX0_chainInn_15 : decode cX0_chainInn 15 = .ok (.iconst 0, 1) := dk_3 (dk_at dksX0_chainInn_0 15 rfl rfl)
theorem dX0_chainInn_16 : decode cX0_chainInn 16 = .ok (.ireturn, 1) := dk_172 (dk_at dksX0_chainInn_0 16 rfl rfl)
abbrev cX0_position : ByteArray := method_29_code
def yX0_position : MethodName := ⟨RX0, "position", "(LInnRoad;I[J)I"⟩
def dkwX0_position_0 : List UInt8 := [44, 3, 42, 27, 182, 0, 98, 133, 80, 167, 0, 6, 78, 4, 172, 3, 172]
abbrev dktX0_position_0 : List UInt8 := dkwX0_position_0 ++ []
theorem dksX0_position_0 : cX0_position.data.toList.drop 0 = dktX0_position_0 := by decide +kernel
theorem dX0_position_0 : decode cX0_position 0 = .ok (.aload_n 2, 1) := dk_44 (dk_at dksX0_position_0 0 rfl rfl)
theorem dX0_position_1 : decode cX0_position 1 = .ok (.iconst 0, 1) := dk_3 (dk_at dksX0_position_0 1 rfl rfl)
theorem dX0_position_2 : decode cX0_position 2 = .ok (.aload_n 0, 1) := dk_42 (dk_at dksX0_position_0 2 rfl rfl)
theorem dX0_position_3 : decode cX0_position 3 = .ok (.iload_n 1, 1) := dk_27 (dk_at dksX0_position_0 3 rfl rfl)
theorem dX0_position_4 : decode cX0_position 4 = .ok (.invokevirtual 98, 3) := dk_182 0 98 (dk_at dksX0_position_0 4 rfl rfl)
theorem dX0_position_7 : decode cX0_position 7 = .ok (.i2l, 1) := dk_133 (dk_at dksX0_position_0 7 rfl rfl)
theorem dX0_position_8 : decode cX0_position 8 = .ok (.lastore, 1) := dk_80 (dk_at dksX0_position_0 8 rfl rfl)
theorem dX0_position_9 : decode cX0_position 9 = .ok (.goto 6, 3) := dk_167 0 6 (dk_at dksX0_position_0 9 rfl rfl)
theorem dX0_position_12 : decode cX0_position 12 = .ok (.astore_n 3, 1) := dk_78 (dk_at dksX0_position_0 12 rfl rfl)
theorem dX0_position_13 : decode cX0_position 13 = .ok (.iconst 1, 1) := dk_4 (dk_at dksX0_position_0 13 rfl rfl)
theorem dX0_position_14 : decode cX0_position 14 = .ok (.ireturn, 1) := dk_172 (dk_at dksX0_position_0 14 rfl rfl)
theorem dX0_position_15 : decode cX0_position 15 = .ok (.iconst 0, 1) := dk_3 (dk_at dksX0_position_0 15 rfl rfl)
theorem dX0_position_16 : decode cX0_position 16 = .ok (.ireturn, 1) := dk_172 (dk_at dksX0_position_0 16 rfl rfl)
abbrev cX0_isReachable : ByteArray := method_30_code
def yX0_isReachable : MethodName := ⟨RX0, "isReachable", "(LInnRoad;II[J)I"⟩
def dkwX0_isReachable_1 : List UInt8 := [3, 172]
abbrev dktX0_isReachable_1 : List UInt8 := dkwX0_isReachable_1 ++ []
def dkwX0_isReachable_0 : List UInt8 := [45, 3, 42, 27, 28, 182, 0, 101, 153, 0, 7, 10, 167, 0, 4, 9, 80, 167, 0, 7, 58, 4, 4, 172]
abbrev dktX0_isReachable_0 : List UInt8 := dkwX0_isReachable_0 ++ dktX0_isReachable_1
theorem dksX0_isReachable_0 : cX0_isReachable.data.toList.drop 0 = dktX0_isReachable_0 := by decide +kernel
theorem dksX0_isReachable_1 : cX0_isReachable.data.toList.drop 24 = dktX0_isReachable_1 := dk_seg dksX0_isReachable_0 24 rfl rfl
theorem dX0_isReachable_0 : decode cX0_isReachable 0 = .ok (.aload_n 3, 1) := dk_45 (dk_at dksX0_isReachable_0 0 rfl rfl)
theorem dX0_isReachable_1 : decode cX0_isReachable 1 = .ok (.iconst 0, 1) := dk_3 (dk_at dksX0_isReachable_0 1 rfl rfl)
theorem dX0_isReachable_2 : decode cX0_isReachable 2 = .ok (.aload_n 0, 1) := dk_42 (dk_at dksX0_isReachable_0 2 rfl rfl)
theorem dX0_isReachable_3 : decode cX0_isReachable 3 = .ok (.iload_n 1, 1) := dk_27 (dk_at dksX0_isReachable_0 3 rfl rfl)
theorem dX0_isReachable_4 : decode cX0_isReachable 4 = .ok (.iload_n 2, 1) := dk_28 (dk_at dksX0_isReachable_0 4 rfl rfl)
theorem dX0_isReachable_5 : decode cX0_isReachable 5 = .ok (.invokevirtual 101, 3) := dk_182 0 101 (dk_at dksX0_isReachable_0 5 rfl rfl)
theorem dX0_isReachable_8 : decode cX0_isReachable 8 = .ok (.ifCond .eq 7, 3) := dk_153 0 7 (dk_at dksX0_isReachable_0 8 rfl rfl)
theorem dX0_isReachable_11 : decode cX0_isReachable 11 = .ok (.lconst 1, 1) := dk_10 (dk_at dksX0_isReachable_0 11 rfl rfl)
theorem dX0_isReachable_12 : decode cX0_isReachable 12 = .ok (.goto 4, 3) := dk_167 0 4 (dk_at dksX0_isReachable_0 12 rfl rfl)
theorem dX0_isReachable_15 : decode cX0_isReachable 15 = .ok (.lconst 0, 1) := dk_9 (dk_at dksX0_isReachable_0 15 rfl rfl)
theorem dX0_isReachable_16 : decode cX0_isReachable 16 = .ok (.lastore, 1) := dk_80 (dk_at dksX0_isReachable_0 16 rfl rfl)
theorem dX0_isReachable_17 : decode cX0_isReachable 17 = .ok (.goto 7, 3) := dk_167 0 7 (dk_at dksX0_isReachable_0 17 rfl rfl)
theorem dX0_isReachable_20 : decode cX0_isReachable 20 = .ok (.astore 4, 2) := dk_58 4 (dk_at dksX0_isReachable_0 20 rfl rfl)
theorem dX0_isReachable_22 : decode cX0_isReachable 22 = .ok (.iconst 1, 1) := dk_4 (dk_at dksX0_isReachable_0 22 rfl rfl)
theorem dX0_isReachable_23 : decode cX0_isReachable 23 = .ok (.ireturn, 1) := dk_172 (dk_at dksX0_isReachable_0 23 rfl rfl)
theorem dX0_isReachable_24 : decode cX0_isReachable 24 = .ok (.iconst 0, 1) := dk_3 (dk_at dksX0_isReachable_1 0 rfl rfl)
theorem dX0_isReachable_25 : decode cX0_isReachable 25 = .ok (.ireturn, 1) := dk_172 (dk_at dksX0_isReachable_1 1 rfl rfl)
abbrev cX0_stages : ByteArray := method_31_code
def yX0_stages : MethodName := ⟨RX0, "stages", "(LInnRoad;II[J)I"⟩
def dkwX0_stages_0 : List UInt8 := [45, 3, 42, 27, 28, 182, 0, 105, 133, 80, 167, 0, 7, 58, 4, 4, 172, 3, 172]
abbrev dktX0_stages_0 : List UInt8 := dkwX0_stages_0 ++ []
theorem dksX0_stages_0 : cX0_stages.data.toList.drop 0 = dktX0_stages_0 := by decide +kernel
theorem dX0_stages_0 : decode cX0_stages 0 = .ok (.aload_n 3, 1) := dk_45 (dk_at dksX0_stages_0 0 rfl rfl)
theorem dX0_stages_1 : decode cX0_stages 1 = .ok (.iconst 0, 1) := dk_3 (dk_at dksX0_stages_0 1 rfl rfl)
theorem dX0_stages_2 : decode cX0_stages 2 = .ok (.aload_n 0, 1) := dk_42 (dk_at dksX0_stages_0 2 rfl rfl)
theorem dX0_stages_3 : decode cX0_stages 3 = .ok (.iload_n 1, 1) := dk_27 (dk_at dksX0_stages_0 3 rfl rfl)
theorem dX0_stages_4 : decode cX0_stages 4 = .ok (.iload_n 2, 1) := dk_28 (dk_at dksX0_stages_0 4 rfl rfl)
theorem dX0_stages_5 : decode cX0_stages 5 = .ok (.invokevirtual 105, 3) := dk_182 0 105 (dk_at dksX0_stages_0 5 rfl rfl)
theorem dX0_stages_8 : decode cX0_stages 8 = .ok (.i2l, 1) := dk_133 (dk_at dksX0_stages_0 8 rfl rfl)
theorem dX0_stages_9 : decode cX0_stages 9 = .ok (.lastore, 1) := dk_80 (dk_at dksX0_stages_0 9 rfl rfl)
theorem dX0_stages_10 : decode cX0_stages 10 = .ok (.goto 7, 3) := dk_167 0 7 (dk_at dksX0_stages_0 10 rfl rfl)
theorem dX0_stages_13 : decode cX0_stages 13 = .ok (.astore 4, 2) := dk_58 4 (dk_at dksX0_stages_0 13 rfl rfl)
theorem dX0_stages_15 : decode cX0_stages 15 = .ok (.iconst 1, 1) := dk_4 (dk_at dksX0_stages_0 15 rfl rfl)
theorem dX0_stages_16 : decode cX0_stages 16 = .ok (.ireturn, 1) := dk_172 (dk_at dksX0_stages_0 16 rfl rfl)
theorem dX0_stages_17 : decode cX0_stages 17 = .ok (.iconst 0, 1) := dk_3 (dk_at dksX0_stages_0 17 rfl rfl)
theorem dX0_stages_18 : decode cX0_stages 18 = .ok (.ireturn, 1) := dk_172 (dk_at dksX0_stages_0 18 rfl rfl)
abbrev cX0_rideLength : ByteArray := method_32_code
def yX0_rideLength : MethodName := ⟨RX0, "rideLength", "(LInnRoad;II[J)I"⟩
def dkwX0_rideLength_0 : List UInt8 := [45, 3, 42, 27, 28, 182, 0, 108, 133, 80, 167, 0, 7, 58, 4, 4, 172, 3, 172]
abbrev dktX0_rideLength_0 : List UInt8 := dkwX0_rideLength_0 ++ []
theorem dksX0_rideLength_0 : cX0_rideLength.data.toList.drop 0 = dktX0_rideLength_0 := by decide +kernel
theorem dX0_rideLength_0 : decode cX0_rideLength 0 = .ok (.aload_n 3, 1) := dk_45 (dk_at dksX0_rideLength_0 0 rfl rfl)
theorem dX0_rideLength_1 : decode cX0_rideLength 1 = .ok (.iconst 0, 1) := dk_3 (dk_at dksX0_rideLength_0 1 rfl rfl)
theorem dX0_rideLength_2 : decode cX0_rideLength 2 = .ok (.aload_n 0, 1) := dk_42 (dk_at dksX0_rideLength_0 2 rfl rfl)
theorem dX0_rideLength_3 : decode cX0_rideLength 3 = .ok (.iload_n 1, 1) := dk_27 (dk_at dksX0_rideLength_0 3 rfl rfl)
theorem dX0_rideLength_4 : decode cX0_rideLength 4 = .ok (.iload_n 2, 1) := dk_28 (dk_at dksX0_rideLength_0 4 rfl rfl)
theorem dX0_rideLength_5 : decode cX0_rideLength 5 = .ok (.invokevirtual 108, 3) := dk_182 0 108 (dk_at dksX0_rideLength_0 5 rfl rfl)
theorem dX0_rideLength_8 : decode cX0_rideLength 8 = .ok (.i2l, 1) := dk_133 (dk_at dksX0_rideLength_0 8 rfl rfl)
theorem dX0_rideLength_9 : decode cX0_rideLength 9 = .ok (.lastore, 1) := dk_80 (dk_at dksX0_rideLength_0 9 rfl rfl)
theorem dX0_rideLength_10 : decode cX0_rideLength 10 = .ok (.goto 7, 3) := dk_167 0 7 (dk_at dksX0_rideLength_0 10 rfl rfl)
theorem dX0_rideLength_13 : decode cX0_rideLength 13 = .ok (.astore 4, 2) := dk_58 4 (dk_at dksX0_rideLength_0 13 rfl rfl)
theorem dX0_rideLength_15 : decode cX0_rideLength 15 = .ok (.iconst 1, 1) := dk_4 (dk_at dksX0_rideLength_0 15 rfl rfl)
theorem dX0_rideLength_16 : decode cX0_rideLength 16 = .ok (.ireturn, 1) := dk_172 (dk_at dksX0_rideLength_0 16 rfl rfl)
theorem dX0_rideLength_17 : decode cX0_rideLength 17 = .ok (.iconst 0, 1) := dk_3 (dk_at dksX0_rideLength_0 17 rfl rfl)
theorem dX0_rideLength_18 : decode cX0_rideLength 18 = .ok (.ireturn, 1) := dk_172 (dk_at dksX0_rideLength_0 18 rfl rfl)
abbrev cX0_stuckAt : ByteArray := method_33_code
def yX0_stuckAt : MethodName := ⟨RX0, "stuckAt", "(LInnRoad;II[J)I"⟩
def dkwX0_stuckAt_0 : List UInt8 := [45, 3, 42, 27, 28, 182, 0, 111, 133, 80, 167, 0, 7, 58, 4, 4, 172, 3, 172]
abbrev dktX0_stuckAt_0 : List UInt8 := dkwX0_stuckAt_0 ++ []
theorem dksX0_stuckAt_0 : cX0_stuckAt.data.toList.drop 0 = dktX0_stuckAt_0 := by decide +kernel
theorem dX0_stuckAt_0 : decode cX0_stuckAt 0 = .ok (.aload_n 3, 1) := dk_45 (dk_at dksX0_stuckAt_0 0 rfl rfl)
theorem dX0_stuckAt_1 : decode cX0_stuckAt 1 = .ok (.iconst 0, 1) := dk_3 (dk_at dksX0_stuckAt_0 1 rfl rfl)
theorem dX0_stuckAt_2 : decode cX0_stuckAt 2 = .ok (.aload_n 0, 1) := dk_42 (dk_at dksX0_stuckAt_0 2 rfl rfl)
theorem dX0_stuckAt_3 : decode cX0_stuckAt 3 = .ok (.iload_n 1, 1) := dk_27 (dk_at dksX0_stuckAt_0 3 rfl rfl)
theorem dX0_stuckAt_4 : decode cX0_stuckAt 4 = .ok (.iload_n 2, 1) := dk_28 (dk_at dksX0_stuckAt_0 4 rfl rfl)
theorem dX0_stuckAt_5 : decode cX0_stuckAt 5 = .ok (.invokevirtual 111, 3) := dk_182 0 111 (dk_at dksX0_stuckAt_0 5 rfl rfl)
theorem dX0_stuckAt_8 : decode cX0_stuckAt 8 = .ok (.i2l, 1) := dk_133 (dk_at dksX0_stuckAt_0 8 rfl rfl)
theorem dX0_stuckAt_9 : decode cX0_stuckAt 9 = .ok (.lastore, 1) := dk_80 (dk_at dksX0_stuckAt_0 9 rfl rfl)
theorem dX0_stuckAt_10 : decode cX0_stuckAt 10 = .ok (.goto 7, 3) := dk_167 0 7 (dk_at dksX0_stuckAt_0 10 rfl rfl)
theorem dX0_stuckAt_13 : decode cX0_stuckAt 13 = .ok (.astore 4, 2) := dk_58 4 (dk_at dksX0_stuckAt_0 13 rfl rfl)
theorem dX0_stuckAt_15 : decode cX0_stuckAt 15 = .ok (.iconst 1, 1) := dk_4 (dk_at dksX0_stuckAt_0 15 rfl rfl)
theorem dX0_stuckAt_16 : decode cX0_stuckAt 16 = .ok (.ireturn, 1) := dk_172 (dk_at dksX0_stuckAt_0 16 rfl rfl)
theorem dX0_stuckAt_17 : decode cX0_stuckAt 17 = .ok (.iconst 0, 1) := dk_3 (dk_at dksX0_stuckAt_0 17 rfl rfl)
theorem dX0_stuckAt_18 : decode cX0_stuckAt 18 = .ok (.ireturn, 1) := dk_172 (dk_at dksX0_stuckAt_0 18 rfl rfl)
abbrev cX0_neededInns : ByteArray := method_34_code
def yX0_neededInns : MethodName := ⟨RX0, "neededInns", "(LInnRoad;II[J)I"⟩
def dkwX0_neededInns_0 : List UInt8 := [45, 3, 42, 27, 28, 182, 0, 114, 133, 80, 167, 0, 7, 58, 4, 4, 172, 3, 172]
abbrev dktX0_neededInns_0 : List UInt8 := dkwX0_neededInns_0 ++ []
theorem dksX0_neededInns_0 : cX0_neededInns.data.toList.drop 0 = dktX0_neededInns_0 := by decide +kernel
theorem dX0_neededInns_0 : decode cX0_neededInns 0 = .ok (.aload_n 3, 1) := dk_45 (dk_at dksX0_neededInns_0 0 rfl rfl)
theorem dX0_neededInns_1 : decode cX0_neededInns 1 = .ok (.iconst 0, 1) := dk_3 (dk_at dksX0_neededInns_0 1 rfl rfl)
theorem dX0_neededInns_2 : decode cX0_neededInns 2 = .ok (.aload_n 0, 1) := dk_42 (dk_at dksX0_neededInns_0 2 rfl rfl)
theorem dX0_neededInns_3 : decode cX0_neededInns 3 = .ok (.iload_n 1, 1) := dk_27 (dk_at dksX0_neededInns_0 3 rfl rfl)
theorem dX0_neededInns_4 : decode cX0_neededInns 4 = .ok (.iload_n 2, 1) := dk_28 (dk_at dksX0_neededInns_0 4 rfl rfl)
theorem dX0_neededInns_5 : decode cX0_neededInns 5 = .ok (.invokevirtual 114, 3) := dk_182 0 114 (dk_at dksX0_neededInns_0 5 rfl rfl)
theorem dX0_neededInns_8 : decode cX0_neededInns 8 = .ok (.i2l, 1) := dk_133 (dk_at dksX0_neededInns_0 8 rfl rfl)
theorem dX0_neededInns_9 : decode cX0_neededInns 9 = .ok (.lastore, 1) := dk_80 (dk_at dksX0_neededInns_0 9 rfl rfl)
theorem dX0_neededInns_10 : decode cX0_neededInns 10 = .ok (.goto 7, 3) := dk_167 0 7 (dk_at dksX0_neededInns_0 10 rfl rfl)
theorem dX0_neededInns_13 : decode cX0_neededInns 13 = .ok (.astore 4, 2) := dk_58 4 (dk_at dksX0_neededInns_0 13 rfl rfl)
theorem dX0_neededInns_15 : decode cX0_neededInns 15 = .ok (.iconst 1, 1) := dk_4 (dk_at dksX0_neededInns_0 15 rfl rfl)
theorem dX0_neededInns_16 : decode cX0_neededInns 16 = .ok (.ireturn, 1) := dk_172 (dk_at dksX0_neededInns_0 16 rfl rfl)
theorem dX0_neededInns_17 : decode cX0_neededInns 17 = .ok (.iconst 0, 1) := dk_3 (dk_at dksX0_neededInns_0 17 rfl rfl)
theorem dX0_neededInns_18 : decode cX0_neededInns 18 = .ok (.ireturn, 1) := dk_172 (dk_at dksX0_neededInns_0 18 rfl rfl)
abbrev cX0_leastRange : ByteArray := method_35_code
def yX0_leastRange : MethodName := ⟨RX0, "leastRange", "(LInnRoad;II[J)I"⟩
def dkwX0_leastRange_0 : List UInt8 := [45, 3, 42, 27, 28, 182, 0, 117, 133, 80, 167, 0, 7, 58, 4, 4, 172, 3, 172]
abbrev dktX0_leastRange_0 : List UInt8 := dkwX0_leastRange_0 ++ []
theorem dksX0_leastRange_0 : cX0_leastRange.data.toList.drop 0 = dktX0_leastRange_0 := by decide +kernel
theorem dX0_leastRange_0 : decode cX0_leastRange 0 = .ok (.aload_n 3, 1) := dk_45 (dk_at dksX0_leastRange_0 0 rfl rfl)
theorem dX0_leastRange_1 : decode cX0_leastRange 1 = .ok (.iconst 0, 1) := dk_3 (dk_at dksX0_leastRange_0 1 rfl rfl)
theorem dX0_leastRange_2 : decode cX0_leastRange 2 = .ok (.aload_n 0, 1) := dk_42 (dk_at dksX0_leastRange_0 2 rfl rfl)
theorem dX0_leastRange_3 : decode cX0_leastRange 3 = .ok (.iload_n 1, 1) := dk_27 (dk_at dksX0_leastRange_0 3 rfl rfl)
theorem dX0_leastRange_4 : decode cX0_leastRange 4 = .ok (.iload_n 2, 1) := dk_28 (dk_at dksX0_leastRange_0 4 rfl rfl)
theorem dX0_leastRange_5 : decode cX0_leastRange 5 = .ok (.invokevirtual 117, 3) := dk_182 0 117 (dk_at dksX0_leastRange_0 5 rfl rfl)
theorem dX0_leastRange_8 : decode cX0_leastRange 8 = .ok (.i2l, 1) := dk_133 (dk_at dksX0_leastRange_0 8 rfl rfl)
theorem dX0_leastRange_9 : decode cX0_leastRange 9 = .ok (.lastore, 1) := dk_80 (dk_at dksX0_leastRange_0 9 rfl rfl)
theorem dX0_leastRange_10 : decode cX0_leastRange 10 = .ok (.goto 7, 3) := dk_167 0 7 (dk_at dksX0_leastRange_0 10 rfl rfl)
theorem dX0_leastRange_13 : decode cX0_leastRange 13 = .ok (.astore 4, 2) := dk_58 4 (dk_at dksX0_leastRange_0 13 rfl rfl)
theorem dX0_leastRange_15 : decode cX0_leastRange 15 = .ok (.iconst 1, 1) := dk_4 (dk_at dksX0_leastRange_0 15 rfl rfl)
theorem dX0_leastRange_16 : decode cX0_leastRange 16 = .ok (.ireturn, 1) := dk_172 (dk_at dksX0_leastRange_0 16 rfl rfl)
theorem dX0_leastRange_17 : decode cX0_leastRange 17 = .ok (.iconst 0, 1) := dk_3 (dk_at dksX0_leastRange_0 17 rfl rfl)
theorem dX0_leastRange_18 : decode cX0_leastRange 18 = .ok (.ireturn, 1) := dk_172 (dk_at dksX0_leastRange_0 18 rfl rfl)
abbrev cX0_helpfulOpening : ByteArray := method_36_code
def yX0_helpfulOpening : MethodName := ⟨RX0, "helpfulOpening", "(LInnRoad;II[J)I"⟩
def dkwX0_helpfulOpening_0 : List UInt8 := [45, 3, 42, 27, 28, 182, 0, 120, 133, 80, 167, 0, 7, 58, 4, 4, 172, 3, 172]
abbrev dktX0_helpfulOpening_0 : List UInt8 := dkwX0_helpfulOpening_0 ++ []
theorem dksX0_helpfulOpening_0 : cX0_helpfulOpening.data.toList.drop 0 = dktX0_helpfulOpening_0 := by decide +kernel
theorem dX0_helpfulOpening_0 : decode cX0_helpfulOpening 0 = .ok (.aload_n 3, 1) := dk_45 (dk_at dksX0_helpfulOpening_0 0 rfl rfl)
theorem dX0_helpfulOpening_1 : decode cX0_helpfulOpening 1 = .ok (.iconst 0, 1) := dk_3 (dk_at dksX0_helpfulOpening_0 1 rfl rfl)
theorem dX0_helpfulOpening_2 : decode cX0_helpfulOpening 2 = .ok (.aload_n 0, 1) := dk_42 (dk_at dksX0_helpfulOpening_0 2 rfl rfl)
theorem dX0_helpfulOpening_3 : decode cX0_helpfulOpening 3 = .ok (.iload_n 1, 1) := dk_27 (dk_at dksX0_helpfulOpening_0 3 rfl rfl)
theorem dX0_helpfulOpening_4 : decode cX0_helpfulOpening 4 = .ok (.iload_n 2, 1) := dk_28 (dk_at dksX0_helpfulOpening_0 4 rfl rfl)
theorem dX0_helpfulOpening_5 : decode cX0_helpfulOpening 5 = .ok (.invokevirtual 120, 3) := dk_182 0 120 (dk_at dksX0_helpfulOpening_0 5 rfl rfl)
theorem dX0_helpfulOpening_8 : decode cX0_helpfulOpening 8 = .ok (.i2l, 1) := dk_133 (dk_at dksX0_helpfulOpening_0 8 rfl rfl)
theorem dX0_helpfulOpening_9 : decode cX0_helpfulOpening 9 = .ok (.lastore, 1) := dk_80 (dk_at dksX0_helpfulOpening_0 9 rfl rfl)
theorem dX0_helpfulOpening_10 : decode cX0_helpfulOpening 10 = .ok (.goto 7, 3) := dk_167 0 7 (dk_at dksX0_helpfulOpening_0 10 rfl rfl)
theorem dX0_helpfulOpening_13 : decode cX0_helpfulOpening 13 = .ok (.astore 4, 2) := dk_58 4 (dk_at dksX0_helpfulOpening_0 13 rfl rfl)
theorem dX0_helpfulOpening_15 : decode cX0_helpfulOpening 15 = .ok (.iconst 1, 1) := dk_4 (dk_at dksX0_helpfulOpening_0 15 rfl rfl)
theorem dX0_helpfulOpening_16 : decode cX0_helpfulOpening 16 = .ok (.ireturn, 1) := dk_172 (dk_at dksX0_helpfulOpening_0 16 rfl rfl)
theorem dX0_helpfulOpening_17 : decode cX0_helpfulOpening 17 = .ok (.iconst 0, 1) := dk_3 (dk_at dksX0_helpfulOpening_0 17 rfl rfl)
theorem dX0_helpfulOpening_18 : decode cX0_helpfulOpening 18 = .ok (.ireturn, 1) := dk_172 (dk_at dksX0_helpfulOpening_0 18 rfl rfl)
abbrev cX0_reachableInns : ByteArray := method_37_code
def yX0_reachableInns : MethodName := ⟨RX0, "reachableInns", "(LInnRoad;I[J)I"⟩
def dkwX0_reachableInns_0 : List UInt8 := [44, 3, 42, 27, 182, 0, 123, 133, 80, 167, 0, 6, 78, 4, 172, 3, 172]
abbrev dktX0_reachableInns_0 : List UInt8 := dkwX0_reachableInns_0 ++ []
theorem dksX0_reachableInns_0 : cX0_reachableInns.data.toList.drop 0 = dktX0_reachableInns_0 := by decide +kernel
theorem dX0_reachableInns_0 : decode cX0_reachableInns 0 = .ok (.aload_n 2, 1) := dk_44 (dk_at dksX0_reachableInns_0 0 rfl rfl)
theorem dX0_reachableInns_1 : decode cX0_reachableInns 1 = .ok (.iconst 0, 1) := dk_3 (dk_at dksX0_reachableInns_0 1 rfl rfl)
theorem dX0_reachableInns_2 : decode cX0_reachableInns 2 = .ok (.aload_n 0, 1) := dk_42 (dk_at dksX0_reachableInns_0 2 rfl rfl)
theorem dX0_reachableInns_3 : decode cX0_reachableInns 3 = .ok (.iload_n 1, 1) := dk_27 (dk_at dksX0_reachableInns_0 3 rfl rfl)
theorem dX0_reachableInns_4 : decode cX0_reachableInns 4 = .ok (.invokevirtual 123, 3) := dk_182 0 123 (dk_at dksX0_reachableInns_0 4 rfl rfl)
theorem dX0_reachableInns_7 : decode cX0_reachableInns 7 = .ok (.i2l, 1) := dk_133 (dk_at dksX0_reachableInns_0 7 rfl rfl)
theorem dX0_reachableInns_8 : decode cX0_reachableInns 8 = .ok (.lastore, 1) := dk_80 (dk_at dksX0_reachableInns_0 8 rfl rfl)
theorem dX0_reachableInns_9 : decode cX0_reachableInns 9 = .ok (.goto 6, 3) := dk_167 0 6 (dk_at dksX0_reachableInns_0 9 rfl rfl)
theorem dX0_reachableInns_12 : decode cX0_reachableInns 12 = .ok (.astore_n 3, 1) := dk_78 (dk_at dksX0_reachableInns_0 12 rfl rfl)
theorem dX0_reachableInns_13 : decode cX0_reachableInns 13 = .ok (.iconst 1, 1) := dk_4 (dk_at dksX0_reachableInns_0 13 rfl rfl)
theorem dX0_reachableInns_14 : decode cX0_reachableInns 14 = .ok (.ireturn, 1) := dk_172 (dk_at dksX0_reachableInns_0 14 rfl rfl)
theorem dX0_reachableInns_15 : decode cX0_reachableInns 15 = .ok (.iconst 0, 1) := dk_3 (dk_at dksX0_reachableInns_0 15 rfl rfl)
theorem dX0_reachableInns_16 : decode cX0_reachableInns 16 = .ok (.ireturn, 1) := dk_172 (dk_at dksX0_reachableInns_0 16 rfl rfl)
abbrev cX0_skippingStages : ByteArray := method_38_code
def yX0_skippingStages : MethodName := ⟨RX0, "skippingStages", "(LInnRoad;II[J)I"⟩
def dkwX0_skippingStages_0 : List UInt8 := [45, 3, 42, 27, 28, 182, 0, 126, 133, 80, 167, 0, 7, 58, 4, 4, 172, 3, 172]
abbrev dktX0_skippingStages_0 : List UInt8 := dkwX0_skippingStages_0 ++ []
theorem dksX0_skippingStages_0 : cX0_skippingStages.data.toList.drop 0 = dktX0_skippingStages_0 := by decide +kernel
theorem dX0_skippingStages_0 : decode cX0_skippingStages 0 = .ok (.aload_n 3, 1) := dk_45 (dk_at dksX0_skippingStages_0 0 rfl rfl)
theorem dX0_skippingStages_1 : decode cX0_skippingStages 1 = .ok (.iconst 0, 1) := dk_3 (dk_at dksX0_skippingStages_0 1 rfl rfl)
theorem dX0_skippingStages_2 : decode cX0_skippingStages 2 = .ok (.aload_n 0, 1) := dk_42 (dk_at dksX0_skippingStages_0 2 rfl rfl)
theorem dX0_skippingStages_3 : decode cX0_skippingStages 3 = .ok (.iload_n 1, 1) := dk_27 (dk_at dksX0_skippingStages_0 3 rfl rfl)
theorem dX0_skippingStages_4 : decode cX0_skippingStages 4 = .ok (.iload_n 2, 1) := dk_28 (dk_at dksX0_skippingStages_0 4 rfl rfl)
theorem dX0_skippingStages_5 : decode cX0_skippingStages 5 = .ok (.invokevirtual 126, 3) := dk_182 0 126 (dk_at dksX0_skippingStages_0 5 rfl rfl)
theorem dX0_skippingStages_8 : decode cX0_skippingStages 8 = .ok (.i2l, 1) := dk_133 (dk_at dksX0_skippingStages_0 8 rfl rfl)
theorem dX0_skippingStages_9 : decode cX0_skippingStages 9 = .ok (.lastore, 1) := dk_80 (dk_at dksX0_skippingStages_0 9 rfl rfl)
theorem dX0_skippingStages_10 : decode cX0_skippingStages 10 = .ok (.goto 7, 3) := dk_167 0 7 (dk_at dksX0_skippingStages_0 10 rfl rfl)
theorem dX0_skippingStages_13 : decode cX0_skippingStages 13 = .ok (.astore 4, 2) := dk_58 4 (dk_at dksX0_skippingStages_0 13 rfl rfl)
theorem dX0_skippingStages_15 : decode cX0_skippingStages 15 = .ok (.iconst 1, 1) := dk_4 (dk_at dksX0_skippingStages_0 15 rfl rfl)
theorem dX0_skippingStages_16 : decode cX0_skippingStages 16 = .ok (.ireturn, 1) := dk_172 (dk_at dksX0_skippingStages_0 16 rfl rfl)
theorem dX0_skippingStages_17 : decode cX0_skippingStages 17 = .ok (.iconst 0, 1) := dk_3 (dk_at dksX0_skippingStages_0 17 rfl rfl)
theorem dX0_skippingStages_18 : decode cX0_skippingStages 18 = .ok (.ireturn, 1) := dk_172 (dk_at dksX0_skippingStages_0 18 rfl rfl)
abbrev cX0_nearestOpenInn : ByteArray := method_39_code
def yX0_nearestOpenInn : MethodName := ⟨RX0, "nearestOpenInn", "(LInnRoad;I[J)I"⟩
def dkwX0_nearestOpenInn_0 : List UInt8 := [44, 3, 42, 27, 182, 0, 129, 133, 80, 167, 0, 6, 78, 4, 172, 3, 172]
abbrev dktX0_nearestOpenInn_0 : List UInt8 := dkwX0_nearestOpenInn_0 ++ []
theorem dksX0_nearestOpenInn_0 : cX0_nearestOpenInn.data.toList.drop 0 = dktX0_nearestOpenInn_0 := by decide +kernel
theorem dX0_nearestOpenInn_0 : decode cX0_nearestOpenInn 0 = .ok (.aload_n 2, 1) := dk_44 (dk_at dksX0_nearestOpenInn_0 0 rfl rfl)
theorem dX0_nearestOpenInn_1 : decode cX0_nearestOpenInn 1 = .ok (.iconst 0, 1) := dk_3 (dk_at dksX0_nearestOpenInn_0 1 rfl rfl)
theorem dX0_nearestOpenInn_2 : decode cX0_nearestOpenInn 2 = .ok (.aload_n 0, 1) := dk_42 (dk_at dksX0_nearestOpenInn_0 2 rfl rfl)
theorem dX0_nearestOpenInn_3 : decode cX0_nearestOpenInn 3 = .ok (.iload_n 1, 1) := dk_27 (dk_at dksX0_nearestOpenInn_0 3 rfl rfl)
theorem dX0_nearestOpenInn_4 : decode cX0_nearestOpenInn 4 = .ok (.invokevirtual 129, 3) := dk_182 0 129 (dk_at dksX0_nearestOpenInn_0 4 rfl rfl)
theorem dX0_nearestOpenInn_7 : decode cX0_nearestOpenInn 7 = .ok (.i2l, 1) := dk_133 (dk_at dksX0_nearestOpenInn_0 7 rfl rfl)
theorem dX0_nearestOpenInn_8 : decode cX0_nearestOpenInn 8 = .ok (.lastore, 1) := dk_80 (dk_at dksX0_nearestOpenInn_0 8 rfl rfl)
theorem dX0_nearestOpenInn_9 : decode cX0_nearestOpenInn 9 = .ok (.goto 6, 3) := dk_167 0 6 (dk_at dksX0_nearestOpenInn_0 9 rfl rfl)
theorem dX0_nearestOpenInn_12 : decode cX0_nearestOpenInn 12 = .ok (.astore_n 3, 1) := dk_78 (dk_at dksX0_nearestOpenInn_0 12 rfl rfl)
theorem dX0_nearestOpenInn_13 : decode cX0_nearestOpenInn 13 = .ok (.iconst 1, 1) := dk_4 (dk_at dksX0_nearestOpenInn_0 13 rfl rfl)
theorem dX0_nearestOpenInn_14 : decode cX0_nearestOpenInn 14 = .ok (.ireturn, 1) := dk_172 (dk_at dksX0_nearestOpenInn_0 14 rfl rfl)
theorem dX0_nearestOpenInn_15 : decode cX0_nearestOpenInn 15 = .ok (.iconst 0, 1) := dk_3 (dk_at dksX0_nearestOpenInn_0 15 rfl rfl)
theorem dX0_nearestOpenInn_16 : decode cX0_nearestOpenInn 16 = .ok (.ireturn, 1) := dk_172 (dk_at dksX0_nearestOpenInn_0 16 rfl rfl)
abbrev cX0_written : ByteArray := method_40_code
def yX0_written : MethodName := ⟨RX0, "written", "(LInnRoad;I[J)I"⟩
def dkwX0_written_0 : List UInt8 := [44, 3, 42, 27, 182, 0, 132, 133, 80, 167, 0, 6, 78, 4, 172, 3, 172]
abbrev dktX0_written_0 : List UInt8 := dkwX0_written_0 ++ []
theorem dksX0_written_0 : cX0_written.data.toList.drop 0 = dktX0_written_0 := by decide +kernel
theorem dX0_written_0 : decode cX0_written 0 = .ok (.aload_n 2, 1) := dk_44 (dk_at dksX0_written_0 0 rfl rfl)
theorem dX0_written_1 : decode cX0_written 1 = .ok (.iconst 0, 1) := dk_3 (dk_at dksX0_written_0 1 rfl rfl)
theorem dX0_written_2 : decode cX0_written 2 = .ok (.aload_n 0, 1) := dk_42 (dk_at dksX0_written_0 2 rfl rfl)
theorem dX0_written_3 : decode cX0_written 3 = .ok (.iload_n 1, 1) := dk_27 (dk_at dksX0_written_0 3 rfl rfl)
theorem dX0_written_4 : decode cX0_written 4 = .ok (.invokevirtual 132, 3) := dk_182 0 132 (dk_at dksX0_written_0 4 rfl rfl)
theorem dX0_written_7 : decode cX0_written 7 = .ok (.i2l, 1) := dk_133 (dk_at dksX0_written_0 7 rfl rfl)
theorem dX0_written_8 : decode cX0_written 8 = .ok (.lastore, 1) := dk_80 (dk_at dksX0_written_0 8 rfl rfl)
theorem dX0_written_9 : decode cX0_written 9 = .ok (.goto 6, 3) := dk_167 0 6 (dk_at dksX0_written_0 9 rfl rfl)
theorem dX0_written_12 : decode cX0_written 12 = .ok (.astore_n 3, 1) := dk_78 (dk_at dksX0_written_0 12 rfl rfl)
theorem dX0_written_13 : decode cX0_written 13 = .ok (.iconst 1, 1) := dk_4 (dk_at dksX0_written_0 13 rfl rfl)
theorem dX0_written_14 : decode cX0_written 14 = .ok (.ireturn, 1) := dk_172 (dk_at dksX0_written_0 14 rfl rfl)
theorem dX0_written_15 : decode cX0_written 15 = .ok (.iconst 0, 1) := dk_3 (dk_at dksX0_written_0 15 rfl rfl)
theorem dX0_written_16 : decode cX0_written 16 = .ok (.ireturn, 1) := dk_172 (dk_at dksX0_written_0 16 rfl rfl)
theorem q69 : (Jvm.Cond.initialized "InnRoadLaw") ∈ lw_all := lw_g (lw_at lw_m1 0 rfl) rfl
theorem q115 : (Jvm.Cond.classLink "InnRoadLaw" (8 : Nat) "InnRoad") ∈ lw_all := lw_g (lw_at lw_m1 46 rfl) rfl
theorem q117 : (Jvm.Cond.methodLink "InnRoadLaw" (135 : Nat) ({ cls := "InnRoad", name := "<init>", desc := "()V" } : Jvm.MethodName)) ∈ lw_all := lw_g (lw_at lw_m1 48 rfl) rfl
theorem q781 : (Jvm.Cond.methodLink "InnRoadLaw" (152 : Nat) ({ cls := "InnRoad", name := "errorPosition", desc := "()I" } : Jvm.MethodName)) ∈ lw_all := lw_g (lw_at lw_m3 232 rfl) rfl
theorem q1519 : (Jvm.Cond.methodLink "InnRoadLaw" (176 : Nat) ({ cls := "InnRoad", name := "thaw", desc := "()I" } : Jvm.MethodName)) ∈ lw_all := lw_g (lw_at lw_m7 10 rfl) rfl
theorem q1607 : (Jvm.Cond.methodLink "InnRoadLaw" (201 : Nat) ({ cls := "InnRoad", name := "rebuild", desc := "()I" } : Jvm.MethodName)) ∈ lw_all := lw_g (lw_at lw_m7 98 rfl) rfl
theorem q1611 : (Jvm.Cond.methodLink "InnRoadLaw" (217 : Nat) ({ cls := "InnRoad", name := "undoCount", desc := "()I" } : Jvm.MethodName)) ∈ lw_all := lw_g (lw_at lw_m7 102 rfl) rfl
theorem q1619 : (Jvm.Cond.methodLink "InnRoadLaw" (221 : Nat) ({ cls := "InnRoad", name := "save", desc := "()I" } : Jvm.MethodName)) ∈ lw_all := lw_g (lw_at lw_m7 110 rfl) rfl
theorem q1627 : (Jvm.Cond.methodLink "InnRoadLaw" (225 : Nat) ({ cls := "InnRoad", name := "inns", desc := "()I" } : Jvm.MethodName)) ∈ lw_all := lw_g (lw_at lw_m7 118 rfl) rfl
theorem q1631 : (Jvm.Cond.methodLink "InnRoadLaw" (247 : Nat) ({ cls := "InnRoad", name := "first", desc := "()I" } : Jvm.MethodName)) ∈ lw_all := lw_g (lw_at lw_m7 122 rfl) rfl
theorem q1635 : (Jvm.Cond.methodLink "InnRoadLaw" (251 : Nat) ({ cls := "InnRoad", name := "second", desc := "()I" } : Jvm.MethodName)) ∈ lw_all := lw_g (lw_at lw_m7 126 rfl) rfl
theorem q1639 : (Jvm.Cond.methodLink "InnRoadLaw" (255 : Nat) ({ cls := "InnRoad", name := "storedCount", desc := "()I" } : Jvm.MethodName)) ∈ lw_all := lw_g (lw_at lw_m7 130 rfl) rfl
theorem q1643 : (Jvm.Cond.methodLink "InnRoadLaw" (259 : Nat) ({ cls := "InnRoad", name := "range", desc := "()I" } : Jvm.MethodName)) ∈ lw_all := lw_g (lw_at lw_m7 134 rfl) rfl
theorem q1647 : (Jvm.Cond.methodLink "InnRoadLaw" (263 : Nat) ({ cls := "InnRoad", name := "openInns", desc := "()I" } : Jvm.MethodName)) ∈ lw_all := lw_g (lw_at lw_m7 138 rfl) rfl
theorem q1651 : (Jvm.Cond.methodLink "InnRoadLaw" (267 : Nat) ({ cls := "InnRoad", name := "innAtMile", desc := "(I)I" } : Jvm.MethodName)) ∈ lw_all := lw_g (lw_at lw_m7 142 rfl) rfl
theorem q1656 : (Jvm.Cond.methodLink "InnRoadLaw" (271 : Nat) ({ cls := "InnRoad", name := "totalLetters", desc := "()I" } : Jvm.MethodName)) ∈ lw_all := lw_g (lw_at lw_m7 147 rfl) rfl
theorem q1660 : (Jvm.Cond.methodLink "InnRoadLaw" (275 : Nat) ({ cls := "InnRoad", name := "stagesRidden", desc := "()I" } : Jvm.MethodName)) ∈ lw_all := lw_g (lw_at lw_m7 151 rfl) rfl
theorem q1664 : (Jvm.Cond.methodLink "InnRoadLaw" (279 : Nat) ({ cls := "InnRoad", name := "lettersDelivered", desc := "()I" } : Jvm.MethodName)) ∈ lw_all := lw_g (lw_at lw_m7 155 rfl) rfl
theorem q1668 : (Jvm.Cond.methodLink "InnRoadLaw" (283 : Nat) ({ cls := "InnRoad", name := "meanGap", desc := "()D" } : Jvm.MethodName)) ∈ lw_all := lw_g (lw_at lw_m7 159 rfl) rfl
theorem q1686 : (Jvm.Cond.methodLink "InnRoadLaw" (288 : Nat) ({ cls := "InnRoad", name := "openShare", desc := "()F" } : Jvm.MethodName)) ∈ lw_all := lw_g (lw_at lw_m7 177 rfl) rfl
theorem q1690 : (Jvm.Cond.methodLink "InnRoadLaw" (293 : Nat) ({ cls := "InnRoad", name := "isConsistent", desc := "()Z" } : Jvm.MethodName)) ∈ lw_all := lw_g (lw_at lw_m7 181 rfl) rfl
theorem q1698 : (Jvm.Cond.methodLink "InnRoadLaw" (298 : Nat) ({ cls := "InnRoad", name := "chainLength", desc := "()I" } : Jvm.MethodName)) ∈ lw_all := lw_g (lw_at lw_m7 189 rfl) rfl
theorem q1737 : (Jvm.Cond.methodLink "InnRoadLaw" (308 : Nat) ({ cls := "InnRoad", name := "hasCycle", desc := "()Z" } : Jvm.MethodName)) ∈ lw_all := lw_g (lw_at lw_m7 228 rfl) rfl
theorem q1755 : (Jvm.Cond.methodLink "InnRoadLaw" (312 : Nat) ({ cls := "InnRoad", name := "danglingPointers", desc := "()I" } : Jvm.MethodName)) ∈ lw_all := lw_g (lw_at lw_m8 6 rfl) rfl
theorem q1767 : (Jvm.Cond.methodLink "InnRoadLaw" (316 : Nat) ({ cls := "InnRoad", name := "wrongValues", desc := "()I" } : Jvm.MethodName)) ∈ lw_all := lw_g (lw_at lw_m8 18 rfl) rfl
theorem q1771 : (Jvm.Cond.methodLink "InnRoadLaw" (320 : Nat) ({ cls := "InnRoad", name := "descents", desc := "()I" } : Jvm.MethodName)) ∈ lw_all := lw_g (lw_at lw_m8 22 rfl) rfl
theorem q1779 : (Jvm.Cond.methodLink "InnRoadLaw" (324 : Nat) ({ cls := "InnRoad", name := "hasSingleFault", desc := "()Z" } : Jvm.MethodName)) ∈ lw_all := lw_g (lw_at lw_m8 30 rfl) rfl
theorem q1783 : (Jvm.Cond.methodLink "InnRoadLaw" (328 : Nat) ({ cls := "InnRoad", name := "faultyInn", desc := "()I" } : Jvm.MethodName)) ∈ lw_all := lw_g (lw_at lw_m8 34 rfl) rfl
theorem q1793 : (Jvm.Cond.methodLink "InnRoadLaw" (362 : Nat) ({ cls := "InnRoad", name := "write", desc := "()I" } : Jvm.MethodName)) ∈ lw_all := lw_g (lw_at lw_m8 44 rfl) rfl
theorem q1834 : (Jvm.Cond.methodLink "InnRoadLaw" (139 : Nat) ({ cls := "InnRoadLaw", name := "append", desc := "(LInnRoad;IIIII[J)I" } : Jvm.MethodName)) ∈ lw_all := lw_g (lw_at lw_m8 85 rfl) rfl
theorem q1835 : (Jvm.Cond.static ({ cls := "InnRoadLaw", name := "append", desc := "(LInnRoad;IIIII[J)I" } : Jvm.MethodName)) ∈ lw_all := lw_g (lw_at lw_m8 86 rfl) rfl
theorem q1836 : (Jvm.Cond.codeWith ({ cls := "InnRoadLaw", name := "append", desc := "(LInnRoad;IIIII[J)I" } : Jvm.MethodName) method_3_code (8 : Nat) (Option.some Jvm.ClassFile.FieldType.int) [((0 : Nat), (16 : Nat), (19 : Nat), (13 : Nat))]) ∈ lw_all := lw_g (lw_at lw_m8 87 rfl) rfl
theorem q1837 : (Jvm.Cond.classLink "InnRoadLaw" (13 : Nat) "java/lang/IllegalStateException") ∈ lw_all := lw_g (lw_at lw_m8 88 rfl) rfl
theorem q1838 : (Jvm.Cond.methodLink "InnRoadLaw" (7 : Nat) ({ cls := "InnRoad", name := "append", desc := "(IIIII)I" } : Jvm.MethodName)) ∈ lw_all := lw_g (lw_at lw_m8 89 rfl) rfl
theorem q1859 : (Jvm.Cond.methodLink "InnRoadLaw" (148 : Nat) ({ cls := "InnRoadLaw", name := "truncate", desc := "(LInnRoad;I[J)I" } : Jvm.MethodName)) ∈ lw_all := lw_g (lw_at lw_m8 110 rfl) rfl
theorem q1860 : (Jvm.Cond.static ({ cls := "InnRoadLaw", name := "truncate", desc := "(LInnRoad;I[J)I" } : Jvm.MethodName)) ∈ lw_all := lw_g (lw_at lw_m8 111 rfl) rfl
theorem q1861 : (Jvm.Cond.codeWith ({ cls := "InnRoadLaw", name := "truncate", desc := "(LInnRoad;I[J)I" } : Jvm.MethodName) method_4_code (4 : Nat) (Option.some Jvm.ClassFile.FieldType.int) [((0 : Nat), (9 : Nat), (12 : Nat), (19 : Nat))]) ∈ lw_all := lw_g (lw_at lw_m8 112 rfl) rfl
theorem q1862 : (Jvm.Cond.classLink "InnRoadLaw" (19 : Nat) "java/lang/IllegalArgumentException") ∈ lw_all := lw_g (lw_at lw_m8 113 rfl) rfl
theorem q1863 : (Jvm.Cond.methodLink "InnRoadLaw" (15 : Nat) ({ cls := "InnRoad", name := "truncate", desc := "(I)I" } : Jvm.MethodName)) ∈ lw_all := lw_g (lw_at lw_m8 114 rfl) rfl
theorem q1876 : (Jvm.Cond.methodLink "InnRoadLaw" (156 : Nat) ({ cls := "InnRoadLaw", name := "load", desc := "(LInnRoad;[J)I" } : Jvm.MethodName)) ∈ lw_all := lw_g (lw_at lw_m8 127 rfl) rfl
theorem q1877 : (Jvm.Cond.static ({ cls := "InnRoadLaw", name := "load", desc := "(LInnRoad;[J)I" } : Jvm.MethodName)) ∈ lw_all := lw_g (lw_at lw_m8 128 rfl) rfl
theorem q1878 : (Jvm.Cond.codeWith ({ cls := "InnRoadLaw", name := "load", desc := "(LInnRoad;[J)I" } : Jvm.MethodName) method_5_code (3 : Nat) (Option.some Jvm.ClassFile.FieldType.int) [((0 : Nat), (8 : Nat), (11 : Nat), (13 : Nat))]) ∈ lw_all := lw_g (lw_at lw_m8 129 rfl) rfl
theorem q1879 : (Jvm.Cond.methodLink "InnRoadLaw" (21 : Nat) ({ cls := "InnRoad", name := "load", desc := "()I" } : Jvm.MethodName)) ∈ lw_all := lw_g (lw_at lw_m8 130 rfl) rfl
theorem q1883 : (Jvm.Cond.methodLink "InnRoadLaw" (160 : Nat) ({ cls := "InnRoadLaw", name := "addInn", desc := "(LInnRoad;I[J)I" } : Jvm.MethodName)) ∈ lw_all := lw_g (lw_at lw_m8 134 rfl) rfl
theorem q1884 : (Jvm.Cond.static ({ cls := "InnRoadLaw", name := "addInn", desc := "(LInnRoad;I[J)I" } : Jvm.MethodName)) ∈ lw_all := lw_g (lw_at lw_m8 135 rfl) rfl
theorem q1885 : (Jvm.Cond.codeWith ({ cls := "InnRoadLaw", name := "addInn", desc := "(LInnRoad;I[J)I" } : Jvm.MethodName) method_6_code (4 : Nat) (Option.some Jvm.ClassFile.FieldType.int) [((0 : Nat), (9 : Nat), (12 : Nat), (19 : Nat)), ((0 : Nat), (9 : Nat), (15 : Nat), (13 : Nat))]) ∈ lw_all := lw_g (lw_at lw_m8 136 rfl) rfl
theorem q1886 : (Jvm.Cond.methodLink "InnRoadLaw" (25 : Nat) ({ cls := "InnRoad", name := "addInn", desc := "(I)I" } : Jvm.MethodName)) ∈ lw_all := lw_g (lw_at lw_m8 137 rfl) rfl
theorem q1894 : (Jvm.Cond.methodLink "InnRoadLaw" (163 : Nat) ({ cls := "InnRoadLaw", name := "removeInn", desc := "(LInnRoad;I[J)I" } : Jvm.MethodName)) ∈ lw_all := lw_g (lw_at lw_m8 145 rfl) rfl
theorem q1895 : (Jvm.Cond.static ({ cls := "InnRoadLaw", name := "removeInn", desc := "(LInnRoad;I[J)I" } : Jvm.MethodName)) ∈ lw_all := lw_g (lw_at lw_m8 146 rfl) rfl
theorem q1896 : (Jvm.Cond.codeWith ({ cls := "InnRoadLaw", name := "removeInn", desc := "(LInnRoad;I[J)I" } : Jvm.MethodName) method_7_code (4 : Nat) (Option.some Jvm.ClassFile.FieldType.int) [((0 : Nat), (9 : Nat), (12 : Nat), (31 : Nat)), ((0 : Nat), (9 : Nat), (15 : Nat), (13 : Nat))]) ∈ lw_all := lw_g (lw_at lw_m8 147 rfl) rfl
theorem q1897 : (Jvm.Cond.classLink "InnRoadLaw" (31 : Nat) "java/lang/IndexOutOfBoundsException") ∈ lw_all := lw_g (lw_at lw_m8 148 rfl) rfl
theorem q1913 : (Jvm.Cond.methodLink "InnRoadLaw" (28 : Nat) ({ cls := "InnRoad", name := "removeInn", desc := "(I)I" } : Jvm.MethodName)) ∈ lw_all := lw_g (lw_at lw_m8 164 rfl) rfl
theorem q1929 : (Jvm.Cond.methodLink "InnRoadLaw" (166 : Nat) ({ cls := "InnRoadLaw", name := "openInn", desc := "(LInnRoad;I[J)I" } : Jvm.MethodName)) ∈ lw_all := lw_g (lw_at lw_m8 180 rfl) rfl
theorem q1930 : (Jvm.Cond.static ({ cls := "InnRoadLaw", name := "openInn", desc := "(LInnRoad;I[J)I" } : Jvm.MethodName)) ∈ lw_all := lw_g (lw_at lw_m8 181 rfl) rfl
theorem q1931 : (Jvm.Cond.codeWith ({ cls := "InnRoadLaw", name := "openInn", desc := "(LInnRoad;I[J)I" } : Jvm.MethodName) method_8_code (4 : Nat) (Option.some Jvm.ClassFile.FieldType.int) [((0 : Nat), (16 : Nat), (19 : Nat), (31 : Nat))]) ∈ lw_all := lw_g (lw_at lw_m8 182 rfl) rfl
theorem q1932 : (Jvm.Cond.methodLink "InnRoadLaw" (33 : Nat) ({ cls := "InnRoad", name := "openInn", desc := "(I)Z" } : Jvm.MethodName)) ∈ lw_all := lw_g (lw_at lw_m8 183 rfl) rfl
theorem q1940 : (Jvm.Cond.methodLink "InnRoadLaw" (169 : Nat) ({ cls := "InnRoadLaw", name := "closeInn", desc := "(LInnRoad;I[J)I" } : Jvm.MethodName)) ∈ lw_all := lw_g (lw_at lw_m8 191 rfl) rfl
theorem q1941 : (Jvm.Cond.static ({ cls := "InnRoadLaw", name := "closeInn", desc := "(LInnRoad;I[J)I" } : Jvm.MethodName)) ∈ lw_all := lw_g (lw_at lw_m8 192 rfl) rfl
theorem q1942 : (Jvm.Cond.codeWith ({ cls := "InnRoadLaw", name := "closeInn", desc := "(LInnRoad;I[J)I" } : Jvm.MethodName) method_9_code (4 : Nat) (Option.some Jvm.ClassFile.FieldType.int) [((0 : Nat), (16 : Nat), (19 : Nat), (31 : Nat))]) ∈ lw_all := lw_g (lw_at lw_m8 193 rfl) rfl
theorem q1943 : (Jvm.Cond.methodLink "InnRoadLaw" (37 : Nat) ({ cls := "InnRoad", name := "closeInn", desc := "(I)Z" } : Jvm.MethodName)) ∈ lw_all := lw_g (lw_at lw_m8 194 rfl) rfl
theorem q1947 : (Jvm.Cond.methodLink "InnRoadLaw" (172 : Nat) ({ cls := "InnRoadLaw", name := "snow", desc := "(LInnRoad;II[J)I" } : Jvm.MethodName)) ∈ lw_all := lw_g (lw_at lw_m8 198 rfl) rfl
theorem q1948 : (Jvm.Cond.static ({ cls := "InnRoadLaw", name := "snow", desc := "(LInnRoad;II[J)I" } : Jvm.MethodName)) ∈ lw_all := lw_g (lw_at lw_m8 199 rfl) rfl
theorem q1949 : (Jvm.Cond.codeWith ({ cls := "InnRoadLaw", name := "snow", desc := "(LInnRoad;II[J)I" } : Jvm.MethodName) method_10_code (5 : Nat) (Option.some Jvm.ClassFile.FieldType.int) [((0 : Nat), (10 : Nat), (13 : Nat), (19 : Nat))]) ∈ lw_all := lw_g (lw_at lw_m8 200 rfl) rfl
theorem q1950 : (Jvm.Cond.methodLink "InnRoadLaw" (40 : Nat) ({ cls := "InnRoad", name := "snow", desc := "(II)I" } : Jvm.MethodName)) ∈ lw_all := lw_g (lw_at lw_m8 201 rfl) rfl
theorem q1954 : (Jvm.Cond.methodLink "InnRoadLaw" (180 : Nat) ({ cls := "InnRoadLaw", name := "setRange", desc := "(LInnRoad;I[J)I" } : Jvm.MethodName)) ∈ lw_all := lw_g (lw_at lw_m8 205 rfl) rfl
theorem q1955 : (Jvm.Cond.static ({ cls := "InnRoadLaw", name := "setRange", desc := "(LInnRoad;I[J)I" } : Jvm.MethodName)) ∈ lw_all := lw_g (lw_at lw_m8 206 rfl) rfl
theorem q1956 : (Jvm.Cond.codeWith ({ cls := "InnRoadLaw", name := "setRange", desc := "(LInnRoad;I[J)I" } : Jvm.MethodName) method_11_code (4 : Nat) (Option.some Jvm.ClassFile.FieldType.int) [((0 : Nat), (9 : Nat), (12 : Nat), (19 : Nat))]) ∈ lw_all := lw_g (lw_at lw_m8 207 rfl) rfl
theorem q1957 : (Jvm.Cond.methodLink "InnRoadLaw" (44 : Nat) ({ cls := "InnRoad", name := "setRange", desc := "(I)I" } : Jvm.MethodName)) ∈ lw_all := lw_g (lw_at lw_m8 208 rfl) rfl
theorem q1961 : (Jvm.Cond.methodLink "InnRoadLaw" (183 : Nat) ({ cls := "InnRoadLaw", name := "setNext", desc := "(LInnRoad;II[J)I" } : Jvm.MethodName)) ∈ lw_all := lw_g (lw_at lw_m8 212 rfl) rfl
theorem q1962 : (Jvm.Cond.static ({ cls := "InnRoadLaw", name := "setNext", desc := "(LInnRoad;II[J)I" } : Jvm.MethodName)) ∈ lw_all := lw_g (lw_at lw_m8 213 rfl) rfl
theorem q1963 : (Jvm.Cond.codeWith ({ cls := "InnRoadLaw", name := "setNext", desc := "(LInnRoad;II[J)I" } : Jvm.MethodName) method_12_code (5 : Nat) (Option.some Jvm.ClassFile.FieldType.int) [((0 : Nat), (10 : Nat), (13 : Nat), (31 : Nat)), ((0 : Nat), (10 : Nat), (17 : Nat), (19 : Nat))]) ∈ lw_all := lw_g (lw_at lw_m8 214 rfl) rfl
theorem q1964 : (Jvm.Cond.methodLink "InnRoadLaw" (47 : Nat) ({ cls := "InnRoad", name := "setNext", desc := "(II)I" } : Jvm.MethodName)) ∈ lw_all := lw_g (lw_at lw_m8 215 rfl) rfl
theorem q1971 : (Jvm.Cond.methodLink "InnRoadLaw" (186 : Nat) ({ cls := "InnRoadLaw", name := "setSkip", desc := "(LInnRoad;II[J)I" } : Jvm.MethodName)) ∈ lw_all := lw_g (lw_at lw_m8 222 rfl) rfl
theorem q1972 : (Jvm.Cond.static ({ cls := "InnRoadLaw", name := "setSkip", desc := "(LInnRoad;II[J)I" } : Jvm.MethodName)) ∈ lw_all := lw_g (lw_at lw_m8 223 rfl) rfl
theorem q1973 : (Jvm.Cond.codeWith ({ cls := "InnRoadLaw", name := "setSkip", desc := "(LInnRoad;II[J)I" } : Jvm.MethodName) method_13_code (5 : Nat) (Option.some Jvm.ClassFile.FieldType.int) [((0 : Nat), (10 : Nat), (13 : Nat), (31 : Nat)), ((0 : Nat), (10 : Nat), (17 : Nat), (19 : Nat))]) ∈ lw_all := lw_g (lw_at lw_m8 224 rfl) rfl
theorem q1974 : (Jvm.Cond.methodLink "InnRoadLaw" (50 : Nat) ({ cls := "InnRoad", name := "setSkip", desc := "(II)I" } : Jvm.MethodName)) ∈ lw_all := lw_g (lw_at lw_m8 225 rfl) rfl
theorem q1978 : (Jvm.Cond.methodLink "InnRoadLaw" (189 : Nat) ({ cls := "InnRoadLaw", name := "setFirst", desc := "(LInnRoad;I[J)I" } : Jvm.MethodName)) ∈ lw_all := lw_g (lw_at lw_m8 229 rfl) rfl
theorem q1979 : (Jvm.Cond.static ({ cls := "InnRoadLaw", name := "setFirst", desc := "(LInnRoad;I[J)I" } : Jvm.MethodName)) ∈ lw_all := lw_g (lw_at lw_m8 230 rfl) rfl
theorem q1980 : (Jvm.Cond.codeWith ({ cls := "InnRoadLaw", name := "setFirst", desc := "(LInnRoad;I[J)I" } : Jvm.MethodName) method_14_code (4 : Nat) (Option.some Jvm.ClassFile.FieldType.int) [((0 : Nat), (9 : Nat), (12 : Nat), (19 : Nat))]) ∈ lw_all := lw_g (lw_at lw_m8 231 rfl) rfl
theorem q1981 : (Jvm.Cond.methodLink "InnRoadLaw" (53 : Nat) ({ cls := "InnRoad", name := "setFirst", desc := "(I)I" } : Jvm.MethodName)) ∈ lw_all := lw_g (lw_at lw_m8 232 rfl) rfl
theorem q1985 : (Jvm.Cond.methodLink "InnRoadLaw" (192 : Nat) ({ cls := "InnRoadLaw", name := "setSecond", desc := "(LInnRoad;I[J)I" } : Jvm.MethodName)) ∈ lw_all := lw_g (lw_at lw_m8 236 rfl) rfl
theorem q1986 : (Jvm.Cond.static ({ cls := "InnRoadLaw", name := "setSecond", desc := "(LInnRoad;I[J)I" } : Jvm.MethodName)) ∈ lw_all := lw_g (lw_at lw_m8 237 rfl) rfl
theorem q1987 : (Jvm.Cond.codeWith ({ cls := "InnRoadLaw", name := "setSecond", desc := "(LInnRoad;I[J)I" } : Jvm.MethodName) method_15_code (4 : Nat) (Option.some Jvm.ClassFile.FieldType.int) [((0 : Nat), (9 : Nat), (12 : Nat), (19 : Nat))]) ∈ lw_all := lw_g (lw_at lw_m8 238 rfl) rfl
theorem q1988 : (Jvm.Cond.methodLink "InnRoadLaw" (56 : Nat) ({ cls := "InnRoad", name := "setSecond", desc := "(I)I" } : Jvm.MethodName)) ∈ lw_all := lw_g (lw_at lw_m8 239 rfl) rfl
theorem q1992 : (Jvm.Cond.methodLink "InnRoadLaw" (195 : Nat) ({ cls := "InnRoadLaw", name := "setStoredCount", desc := "(LInnRoad;I[J)I" } : Jvm.MethodName)) ∈ lw_all := lw_g (lw_at lw_m9 3 rfl) rfl
theorem q1993 : (Jvm.Cond.static ({ cls := "InnRoadLaw", name := "setStoredCount", desc := "(LInnRoad;I[J)I" } : Jvm.MethodName)) ∈ lw_all := lw_g (lw_at lw_m9 4 rfl) rfl
theorem q1994 : (Jvm.Cond.codeWith ({ cls := "InnRoadLaw", name := "setStoredCount", desc := "(LInnRoad;I[J)I" } : Jvm.MethodName) method_16_code (4 : Nat) (Option.some Jvm.ClassFile.FieldType.int) [((0 : Nat), (9 : Nat), (12 : Nat), (19 : Nat))]) ∈ lw_all := lw_g (lw_at lw_m9 5 rfl) rfl
theorem q1995 : (Jvm.Cond.methodLink "InnRoadLaw" (59 : Nat) ({ cls := "InnRoad", name := "setStoredCount", desc := "(I)I" } : Jvm.MethodName)) ∈ lw_all := lw_g (lw_at lw_m9 6 rfl) rfl
theorem q1999 : (Jvm.Cond.methodLink "InnRoadLaw" (198 : Nat) ({ cls := "InnRoadLaw", name := "repair", desc := "(LInnRoad;[J)I" } : Jvm.MethodName)) ∈ lw_all := lw_g (lw_at lw_m9 10 rfl) rfl
theorem q2000 : (Jvm.Cond.static ({ cls := "InnRoadLaw", name := "repair", desc := "(LInnRoad;[J)I" } : Jvm.MethodName)) ∈ lw_all := lw_g (lw_at lw_m9 11 rfl) rfl
theorem q2001 : (Jvm.Cond.codeWith ({ cls := "InnRoadLaw", name := "repair", desc := "(LInnRoad;[J)I" } : Jvm.MethodName) method_17_code (3 : Nat) (Option.some Jvm.ClassFile.FieldType.int) [((0 : Nat), (8 : Nat), (11 : Nat), (13 : Nat))]) ∈ lw_all := lw_g (lw_at lw_m9 12 rfl) rfl
theorem q2002 : (Jvm.Cond.methodLink "InnRoadLaw" (62 : Nat) ({ cls := "InnRoad", name := "repair", desc := "()I" } : Jvm.MethodName)) ∈ lw_all := lw_g (lw_at lw_m9 13 rfl) rfl
theorem q2011 : (Jvm.Cond.methodLink "InnRoadLaw" (205 : Nat) ({ cls := "InnRoadLaw", name := "leaveLetters", desc := "(LInnRoad;II[J)I" } : Jvm.MethodName)) ∈ lw_all := lw_g (lw_at lw_m9 22 rfl) rfl
theorem q2012 : (Jvm.Cond.static ({ cls := "InnRoadLaw", name := "leaveLetters", desc := "(LInnRoad;II[J)I" } : Jvm.MethodName)) ∈ lw_all := lw_g (lw_at lw_m9 23 rfl) rfl
theorem q2013 : (Jvm.Cond.codeWith ({ cls := "InnRoadLaw", name := "leaveLetters", desc := "(LInnRoad;II[J)I" } : Jvm.MethodName) method_18_code (5 : Nat) (Option.some Jvm.ClassFile.FieldType.int) [((0 : Nat), (10 : Nat), (13 : Nat), (31 : Nat)), ((0 : Nat), (10 : Nat), (17 : Nat), (19 : Nat)), ((0 : Nat), (10 : Nat), (21 : Nat), (13 : Nat))]) ∈ lw_all := lw_g (lw_at lw_m9 24 rfl) rfl
theorem q2014 : (Jvm.Cond.methodLink "InnRoadLaw" (65 : Nat) ({ cls := "InnRoad", name := "leaveLetters", desc := "(II)I" } : Jvm.MethodName)) ∈ lw_all := lw_g (lw_at lw_m9 25 rfl) rfl
theorem q2022 : (Jvm.Cond.methodLink "InnRoadLaw" (208 : Nat) ({ cls := "InnRoadLaw", name := "send", desc := "(LInnRoad;II[J)I" } : Jvm.MethodName)) ∈ lw_all := lw_g (lw_at lw_m9 33 rfl) rfl
theorem q2023 : (Jvm.Cond.static ({ cls := "InnRoadLaw", name := "send", desc := "(LInnRoad;II[J)I" } : Jvm.MethodName)) ∈ lw_all := lw_g (lw_at lw_m9 34 rfl) rfl
theorem q2024 : (Jvm.Cond.codeWith ({ cls := "InnRoadLaw", name := "send", desc := "(LInnRoad;II[J)I" } : Jvm.MethodName) method_19_code (5 : Nat) (Option.some Jvm.ClassFile.FieldType.int) [((0 : Nat), (10 : Nat), (13 : Nat), (31 : Nat)), ((0 : Nat), (10 : Nat), (17 : Nat), (19 : Nat)), ((0 : Nat), (10 : Nat), (21 : Nat), (13 : Nat))]) ∈ lw_all := lw_g (lw_at lw_m9 35 rfl) rfl
theorem q2025 : (Jvm.Cond.methodLink "InnRoadLaw" (68 : Nat) ({ cls := "InnRoad", name := "send", desc := "(II)I" } : Jvm.MethodName)) ∈ lw_all := lw_g (lw_at lw_m9 36 rfl) rfl
theorem q2070 : (Jvm.Cond.methodLink "InnRoadLaw" (211 : Nat) ({ cls := "InnRoadLaw", name := "restore", desc := "(LInnRoad;[J)I" } : Jvm.MethodName)) ∈ lw_all := lw_g (lw_at lw_m9 81 rfl) rfl
theorem q2071 : (Jvm.Cond.static ({ cls := "InnRoadLaw", name := "restore", desc := "(LInnRoad;[J)I" } : Jvm.MethodName)) ∈ lw_all := lw_g (lw_at lw_m9 82 rfl) rfl
theorem q2072 : (Jvm.Cond.codeWith ({ cls := "InnRoadLaw", name := "restore", desc := "(LInnRoad;[J)I" } : Jvm.MethodName) method_20_code (3 : Nat) (Option.some Jvm.ClassFile.FieldType.int) [((0 : Nat), (8 : Nat), (11 : Nat), (13 : Nat))]) ∈ lw_all := lw_g (lw_at lw_m9 83 rfl) rfl
theorem q2073 : (Jvm.Cond.methodLink "InnRoadLaw" (71 : Nat) ({ cls := "InnRoad", name := "restore", desc := "()I" } : Jvm.MethodName)) ∈ lw_all := lw_g (lw_at lw_m9 84 rfl) rfl
theorem q2077 : (Jvm.Cond.methodLink "InnRoadLaw" (214 : Nat) ({ cls := "InnRoadLaw", name := "undo", desc := "(LInnRoad;[J)I" } : Jvm.MethodName)) ∈ lw_all := lw_g (lw_at lw_m9 88 rfl) rfl
theorem q2078 : (Jvm.Cond.static ({ cls := "InnRoadLaw", name := "undo", desc := "(LInnRoad;[J)I" } : Jvm.MethodName)) ∈ lw_all := lw_g (lw_at lw_m9 89 rfl) rfl
theorem q2079 : (Jvm.Cond.codeWith ({ cls := "InnRoadLaw", name := "undo", desc := "(LInnRoad;[J)I" } : Jvm.MethodName) method_21_code (3 : Nat) (Option.some Jvm.ClassFile.FieldType.int) [((0 : Nat), (8 : Nat), (11 : Nat), (13 : Nat))]) ∈ lw_all := lw_g (lw_at lw_m9 90 rfl) rfl
theorem q2080 : (Jvm.Cond.methodLink "InnRoadLaw" (74 : Nat) ({ cls := "InnRoad", name := "undo", desc := "()I" } : Jvm.MethodName)) ∈ lw_all := lw_g (lw_at lw_m9 91 rfl) rfl
theorem q2099 : (Jvm.Cond.methodLink "InnRoadLaw" (229 : Nat) ({ cls := "InnRoadLaw", name := "hasInn", desc := "(LInnRoad;I[J)I" } : Jvm.MethodName)) ∈ lw_all := lw_g (lw_at lw_m9 110 rfl) rfl
theorem q2100 : (Jvm.Cond.static ({ cls := "InnRoadLaw", name := "hasInn", desc := "(LInnRoad;I[J)I" } : Jvm.MethodName)) ∈ lw_all := lw_g (lw_at lw_m9 111 rfl) rfl
theorem q2101 : (Jvm.Cond.codeWith ({ cls := "InnRoadLaw", name := "hasInn", desc := "(LInnRoad;I[J)I" } : Jvm.MethodName) method_22_code (4 : Nat) (Option.some Jvm.ClassFile.FieldType.int) [((0 : Nat), (16 : Nat), (19 : Nat), (31 : Nat))]) ∈ lw_all := lw_g (lw_at lw_m9 112 rfl) rfl
theorem q2102 : (Jvm.Cond.methodLink "InnRoadLaw" (77 : Nat) ({ cls := "InnRoad", name := "hasInn", desc := "(I)Z" } : Jvm.MethodName)) ∈ lw_all := lw_g (lw_at lw_m9 113 rfl) rfl
theorem q2106 : (Jvm.Cond.methodLink "InnRoadLaw" (232 : Nat) ({ cls := "InnRoadLaw", name := "mile", desc := "(LInnRoad;I[J)I" } : Jvm.MethodName)) ∈ lw_all := lw_g (lw_at lw_m9 117 rfl) rfl
theorem q2107 : (Jvm.Cond.static ({ cls := "InnRoadLaw", name := "mile", desc := "(LInnRoad;I[J)I" } : Jvm.MethodName)) ∈ lw_all := lw_g (lw_at lw_m9 118 rfl) rfl
theorem q2108 : (Jvm.Cond.codeWith ({ cls := "InnRoadLaw", name := "mile", desc := "(LInnRoad;I[J)I" } : Jvm.MethodName) method_23_code (4 : Nat) (Option.some Jvm.ClassFile.FieldType.int) [((0 : Nat), (9 : Nat), (12 : Nat), (31 : Nat))]) ∈ lw_all := lw_g (lw_at lw_m9 119 rfl) rfl
theorem q2109 : (Jvm.Cond.methodLink "InnRoadLaw" (80 : Nat) ({ cls := "InnRoad", name := "mile", desc := "(I)I" } : Jvm.MethodName)) ∈ lw_all := lw_g (lw_at lw_m9 120 rfl) rfl
theorem q2113 : (Jvm.Cond.methodLink "InnRoadLaw" (235 : Nat) ({ cls := "InnRoadLaw", name := "next", desc := "(LInnRoad;I[J)I" } : Jvm.MethodName)) ∈ lw_all := lw_g (lw_at lw_m9 124 rfl) rfl
theorem q2114 : (Jvm.Cond.static ({ cls := "InnRoadLaw", name := "next", desc := "(LInnRoad;I[J)I" } : Jvm.MethodName)) ∈ lw_all := lw_g (lw_at lw_m9 125 rfl) rfl
theorem q2115 : (Jvm.Cond.codeWith ({ cls := "InnRoadLaw", name := "next", desc := "(LInnRoad;I[J)I" } : Jvm.MethodName) method_24_code (4 : Nat) (Option.some Jvm.ClassFile.FieldType.int) [((0 : Nat), (9 : Nat), (12 : Nat), (31 : Nat))]) ∈ lw_all := lw_g (lw_at lw_m9 126 rfl) rfl
theorem q2116 : (Jvm.Cond.methodLink "InnRoadLaw" (83 : Nat) ({ cls := "InnRoad", name := "next", desc := "(I)I" } : Jvm.MethodName)) ∈ lw_all := lw_g (lw_at lw_m9 127 rfl) rfl
theorem q2120 : (Jvm.Cond.methodLink "InnRoadLaw" (238 : Nat) ({ cls := "InnRoadLaw", name := "skip", desc := "(LInnRoad;I[J)I" } : Jvm.MethodName)) ∈ lw_all := lw_g (lw_at lw_m9 131 rfl) rfl
theorem q2121 : (Jvm.Cond.static ({ cls := "InnRoadLaw", name := "skip", desc := "(LInnRoad;I[J)I" } : Jvm.MethodName)) ∈ lw_all := lw_g (lw_at lw_m9 132 rfl) rfl
theorem q2122 : (Jvm.Cond.codeWith ({ cls := "InnRoadLaw", name := "skip", desc := "(LInnRoad;I[J)I" } : Jvm.MethodName) method_25_code (4 : Nat) (Option.some Jvm.ClassFile.FieldType.int) [((0 : Nat), (9 : Nat), (12 : Nat), (31 : Nat))]) ∈ lw_all := lw_g (lw_at lw_m9 133 rfl) rfl
theorem q2123 : (Jvm.Cond.methodLink "InnRoadLaw" (86 : Nat) ({ cls := "InnRoad", name := "skip", desc := "(I)I" } : Jvm.MethodName)) ∈ lw_all := lw_g (lw_at lw_m9 134 rfl) rfl
theorem q2127 : (Jvm.Cond.methodLink "InnRoadLaw" (241 : Nat) ({ cls := "InnRoadLaw", name := "isOpen", desc := "(LInnRoad;I[J)I" } : Jvm.MethodName)) ∈ lw_all := lw_g (lw_at lw_m9 138 rfl) rfl
theorem q2128 : (Jvm.Cond.static ({ cls := "InnRoadLaw", name := "isOpen", desc := "(LInnRoad;I[J)I" } : Jvm.MethodName)) ∈ lw_all := lw_g (lw_at lw_m9 139 rfl) rfl
theorem q2129 : (Jvm.Cond.codeWith ({ cls := "InnRoadLaw", name := "isOpen", desc := "(LInnRoad;I[J)I" } : Jvm.MethodName) method_26_code (4 : Nat) (Option.some Jvm.ClassFile.FieldType.int) [((0 : Nat), (16 : Nat), (19 : Nat), (31 : Nat))]) ∈ lw_all := lw_g (lw_at lw_m9 140 rfl) rfl
theorem q2130 : (Jvm.Cond.methodLink "InnRoadLaw" (89 : Nat) ({ cls := "InnRoad", name := "isOpen", desc := "(I)Z" } : Jvm.MethodName)) ∈ lw_all := lw_g (lw_at lw_m9 141 rfl) rfl
theorem q2134 : (Jvm.Cond.methodLink "InnRoadLaw" (244 : Nat) ({ cls := "InnRoadLaw", name := "letters", desc := "(LInnRoad;I[J)I" } : Jvm.MethodName)) ∈ lw_all := lw_g (lw_at lw_m9 145 rfl) rfl
theorem q2135 : (Jvm.Cond.static ({ cls := "InnRoadLaw", name := "letters", desc := "(LInnRoad;I[J)I" } : Jvm.MethodName)) ∈ lw_all := lw_g (lw_at lw_m9 146 rfl) rfl
theorem q2136 : (Jvm.Cond.codeWith ({ cls := "InnRoadLaw", name := "letters", desc := "(LInnRoad;I[J)I" } : Jvm.MethodName) method_27_code (4 : Nat) (Option.some Jvm.ClassFile.FieldType.int) [((0 : Nat), (9 : Nat), (12 : Nat), (31 : Nat))]) ∈ lw_all := lw_g (lw_at lw_m9 147 rfl) rfl
theorem q2137 : (Jvm.Cond.methodLink "InnRoadLaw" (92 : Nat) ({ cls := "InnRoad", name := "letters", desc := "(I)I" } : Jvm.MethodName)) ∈ lw_all := lw_g (lw_at lw_m9 148 rfl) rfl
theorem q2141 : (Jvm.Cond.methodLink "InnRoadLaw" (302 : Nat) ({ cls := "InnRoadLaw", name := "chainInn", desc := "(LInnRoad;I[J)I" } : Jvm.MethodName)) ∈ lw_all := lw_g (lw_at lw_m9 152 rfl) rfl
theorem q2142 : (Jvm.Cond.static ({ cls := "InnRoadLaw", name := "chainInn", desc := "(LInnRoad;I[J)I" } : Jvm.MethodName)) ∈ lw_all := lw_g (lw_at lw_m9 153 rfl) rfl
theorem q2143 : (Jvm.Cond.codeWith ({ cls := "InnRoadLaw", name := "chainInn", desc := "(LInnRoad;I[J)I" } : Jvm.MethodName) method_28_code (4 : Nat) (Option.some Jvm.ClassFile.FieldType.int) [((0 : Nat), (9 : Nat), (12 : Nat), (31 : Nat))]) ∈ lw_all := lw_g (lw_at lw_m9 154 rfl) rfl
theorem q2144 : (Jvm.Cond.methodLink "InnRoadLaw" (95 : Nat) ({ cls := "InnRoad", name := "chainInn", desc := "(I)I" } : Jvm.MethodName)) ∈ lw_all := lw_g (lw_at lw_m9 155 rfl) rfl
theorem q2148 : (Jvm.Cond.methodLink "InnRoadLaw" (305 : Nat) ({ cls := "InnRoadLaw", name := "position", desc := "(LInnRoad;I[J)I" } : Jvm.MethodName)) ∈ lw_all := lw_g (lw_at lw_m9 159 rfl) rfl
theorem q2149 : (Jvm.Cond.static ({ cls := "InnRoadLaw", name := "position", desc := "(LInnRoad;I[J)I" } : Jvm.MethodName)) ∈ lw_all := lw_g (lw_at lw_m9 160 rfl) rfl
theorem q2150 : (Jvm.Cond.codeWith ({ cls := "InnRoadLaw", name := "position", desc := "(LInnRoad;I[J)I" } : Jvm.MethodName) method_29_code (4 : Nat) (Option.some Jvm.ClassFile.FieldType.int) [((0 : Nat), (9 : Nat), (12 : Nat), (31 : Nat))]) ∈ lw_all := lw_g (lw_at lw_m9 161 rfl) rfl
theorem q2151 : (Jvm.Cond.methodLink "InnRoadLaw" (98 : Nat) ({ cls := "InnRoad", name := "position", desc := "(I)I" } : Jvm.MethodName)) ∈ lw_all := lw_g (lw_at lw_m9 162 rfl) rfl
theorem q2163 : (Jvm.Cond.methodLink "InnRoadLaw" (332 : Nat) ({ cls := "InnRoadLaw", name := "isReachable", desc := "(LInnRoad;II[J)I" } : Jvm.MethodName)) ∈ lw_all := lw_g (lw_at lw_m9 174 rfl) rfl
theorem q2164 : (Jvm.Cond.static ({ cls := "InnRoadLaw", name := "isReachable", desc := "(LInnRoad;II[J)I" } : Jvm.MethodName)) ∈ lw_all := lw_g (lw_at lw_m9 175 rfl) rfl
theorem q2165 : (Jvm.Cond.codeWith ({ cls := "InnRoadLaw", name := "isReachable", desc := "(LInnRoad;II[J)I" } : Jvm.MethodName) method_30_code (5 : Nat) (Option.some Jvm.ClassFile.FieldType.int) [((0 : Nat), (17 : Nat), (20 : Nat), (31 : Nat))]) ∈ lw_all := lw_g (lw_at lw_m9 176 rfl) rfl
theorem q2166 : (Jvm.Cond.methodLink "InnRoadLaw" (101 : Nat) ({ cls := "InnRoad", name := "isReachable", desc := "(II)Z" } : Jvm.MethodName)) ∈ lw_all := lw_g (lw_at lw_m9 177 rfl) rfl
theorem q2178 : (Jvm.Cond.methodLink "InnRoadLaw" (335 : Nat) ({ cls := "InnRoadLaw", name := "stages", desc := "(LInnRoad;II[J)I" } : Jvm.MethodName)) ∈ lw_all := lw_g (lw_at lw_m9 189 rfl) rfl
theorem q2179 : (Jvm.Cond.static ({ cls := "InnRoadLaw", name := "stages", desc := "(LInnRoad;II[J)I" } : Jvm.MethodName)) ∈ lw_all := lw_g (lw_at lw_m9 190 rfl) rfl
theorem q2180 : (Jvm.Cond.codeWith ({ cls := "InnRoadLaw", name := "stages", desc := "(LInnRoad;II[J)I" } : Jvm.MethodName) method_31_code (5 : Nat) (Option.some Jvm.ClassFile.FieldType.int) [((0 : Nat), (10 : Nat), (13 : Nat), (31 : Nat))]) ∈ lw_all := lw_g (lw_at lw_m9 191 rfl) rfl
theorem q2181 : (Jvm.Cond.methodLink "InnRoadLaw" (105 : Nat) ({ cls := "InnRoad", name := "stages", desc := "(II)I" } : Jvm.MethodName)) ∈ lw_all := lw_g (lw_at lw_m9 192 rfl) rfl
theorem q2185 : (Jvm.Cond.methodLink "InnRoadLaw" (338 : Nat) ({ cls := "InnRoadLaw", name := "rideLength", desc := "(LInnRoad;II[J)I" } : Jvm.MethodName)) ∈ lw_all := lw_g (lw_at lw_m9 196 rfl) rfl
theorem q2186 : (Jvm.Cond.static ({ cls := "InnRoadLaw", name := "rideLength", desc := "(LInnRoad;II[J)I" } : Jvm.MethodName)) ∈ lw_all := lw_g (lw_at lw_m9 197 rfl) rfl
theorem q2187 : (Jvm.Cond.codeWith ({ cls := "InnRoadLaw", name := "rideLength", desc := "(LInnRoad;II[J)I" } : Jvm.MethodName) method_32_code (5 : Nat) (Option.some Jvm.ClassFile.FieldType.int) [((0 : Nat), (10 : Nat), (13 : Nat), (31 : Nat))]) ∈ lw_all := lw_g (lw_at lw_m9 198 rfl) rfl
theorem q2188 : (Jvm.Cond.methodLink "InnRoadLaw" (108 : Nat) ({ cls := "InnRoad", name := "rideLength", desc := "(II)I" } : Jvm.MethodName)) ∈ lw_all := lw_g (lw_at lw_m9 199 rfl) rfl
theorem q2192 : (Jvm.Cond.methodLink "InnRoadLaw" (341 : Nat) ({ cls := "InnRoadLaw", name := "stuckAt", desc := "(LInnRoad;II[J)I" } : Jvm.MethodName)) ∈ lw_all := lw_g (lw_at lw_m9 203 rfl) rfl
theorem q2193 : (Jvm.Cond.static ({ cls := "InnRoadLaw", name := "stuckAt", desc := "(LInnRoad;II[J)I" } : Jvm.MethodName)) ∈ lw_all := lw_g (lw_at lw_m9 204 rfl) rfl
theorem q2194 : (Jvm.Cond.codeWith ({ cls := "InnRoadLaw", name := "stuckAt", desc := "(LInnRoad;II[J)I" } : Jvm.MethodName) method_33_code (5 : Nat) (Option.some Jvm.ClassFile.FieldType.int) [((0 : Nat), (10 : Nat), (13 : Nat), (31 : Nat))]) ∈ lw_all := lw_g (lw_at lw_m9 205 rfl) rfl
theorem q2195 : (Jvm.Cond.methodLink "InnRoadLaw" (111 : Nat) ({ cls := "InnRoad", name := "stuckAt", desc := "(II)I" } : Jvm.MethodName)) ∈ lw_all := lw_g (lw_at lw_m9 206 rfl) rfl
theorem q2199 : (Jvm.Cond.methodLink "InnRoadLaw" (344 : Nat) ({ cls := "InnRoadLaw", name := "neededInns", desc := "(LInnRoad;II[J)I" } : Jvm.MethodName)) ∈ lw_all := lw_g (lw_at lw_m9 210 rfl) rfl
theorem q2200 : (Jvm.Cond.static ({ cls := "InnRoadLaw", name := "neededInns", desc := "(LInnRoad;II[J)I" } : Jvm.MethodName)) ∈ lw_all := lw_g (lw_at lw_m9 211 rfl) rfl
theorem q2201 : (Jvm.Cond.codeWith ({ cls := "InnRoadLaw", name := "neededInns", desc := "(LInnRoad;II[J)I" } : Jvm.MethodName) method_34_code (5 : Nat) (Option.some Jvm.ClassFile.FieldType.int) [((0 : Nat), (10 : Nat), (13 : Nat), (31 : Nat))]) ∈ lw_all := lw_g (lw_at lw_m9 212 rfl) rfl
theorem q2202 : (Jvm.Cond.methodLink "InnRoadLaw" (114 : Nat) ({ cls := "InnRoad", name := "neededInns", desc := "(II)I" } : Jvm.MethodName)) ∈ lw_all := lw_g (lw_at lw_m9 213 rfl) rfl
theorem q2210 : (Jvm.Cond.methodLink "InnRoadLaw" (347 : Nat) ({ cls := "InnRoadLaw", name := "leastRange", desc := "(LInnRoad;II[J)I" } : Jvm.MethodName)) ∈ lw_all := lw_g (lw_at lw_m9 221 rfl) rfl
theorem q2211 : (Jvm.Cond.static ({ cls := "InnRoadLaw", name := "leastRange", desc := "(LInnRoad;II[J)I" } : Jvm.MethodName)) ∈ lw_all := lw_g (lw_at lw_m9 222 rfl) rfl
theorem q2212 : (Jvm.Cond.codeWith ({ cls := "InnRoadLaw", name := "leastRange", desc := "(LInnRoad;II[J)I" } : Jvm.MethodName) method_35_code (5 : Nat) (Option.some Jvm.ClassFile.FieldType.int) [((0 : Nat), (10 : Nat), (13 : Nat), (31 : Nat))]) ∈ lw_all := lw_g (lw_at lw_m9 223 rfl) rfl
theorem q2213 : (Jvm.Cond.methodLink "InnRoadLaw" (117 : Nat) ({ cls := "InnRoad", name := "leastRange", desc := "(II)I" } : Jvm.MethodName)) ∈ lw_all := lw_g (lw_at lw_m9 224 rfl) rfl
theorem q2217 : (Jvm.Cond.methodLink "InnRoadLaw" (350 : Nat) ({ cls := "InnRoadLaw", name := "helpfulOpening", desc := "(LInnRoad;II[J)I" } : Jvm.MethodName)) ∈ lw_all := lw_g (lw_at lw_m9 228 rfl) rfl
theorem q2218 : (Jvm.Cond.static ({ cls := "InnRoadLaw", name := "helpfulOpening", desc := "(LInnRoad;II[J)I" } : Jvm.MethodName)) ∈ lw_all := lw_g (lw_at lw_m9 229 rfl) rfl
theorem q2219 : (Jvm.Cond.codeWith ({ cls := "InnRoadLaw", name := "helpfulOpening", desc := "(LInnRoad;II[J)I" } : Jvm.MethodName) method_36_code (5 : Nat) (Option.some Jvm.ClassFile.FieldType.int) [((0 : Nat), (10 : Nat), (13 : Nat), (31 : Nat))]) ∈ lw_all := lw_g (lw_at lw_m9 230 rfl) rfl
theorem q2220 : (Jvm.Cond.methodLink "InnRoadLaw" (120 : Nat) ({ cls := "InnRoad", name := "helpfulOpening", desc := "(II)I" } : Jvm.MethodName)) ∈ lw_all := lw_g (lw_at lw_m9 231 rfl) rfl
theorem q2224 : (Jvm.Cond.methodLink "InnRoadLaw" (353 : Nat) ({ cls := "InnRoadLaw", name := "reachableInns", desc := "(LInnRoad;I[J)I" } : Jvm.MethodName)) ∈ lw_all := lw_g (lw_at lw_m9 235 rfl) rfl
theorem q2225 : (Jvm.Cond.static ({ cls := "InnRoadLaw", name := "reachableInns", desc := "(LInnRoad;I[J)I" } : Jvm.MethodName)) ∈ lw_all := lw_g (lw_at lw_m9 236 rfl) rfl
theorem q2226 : (Jvm.Cond.codeWith ({ cls := "InnRoadLaw", name := "reachableInns", desc := "(LInnRoad;I[J)I" } : Jvm.MethodName) method_37_code (4 : Nat) (Option.some Jvm.ClassFile.FieldType.int) [((0 : Nat), (9 : Nat), (12 : Nat), (31 : Nat))]) ∈ lw_all := lw_g (lw_at lw_m9 237 rfl) rfl
theorem q2227 : (Jvm.Cond.methodLink "InnRoadLaw" (123 : Nat) ({ cls := "InnRoad", name := "reachableInns", desc := "(I)I" } : Jvm.MethodName)) ∈ lw_all := lw_g (lw_at lw_m9 238 rfl) rfl
theorem q2231 : (Jvm.Cond.methodLink "InnRoadLaw" (356 : Nat) ({ cls := "InnRoadLaw", name := "skippingStages", desc := "(LInnRoad;II[J)I" } : Jvm.MethodName)) ∈ lw_all := lw_g (lw_at lw_m10 2 rfl) rfl
theorem q2232 : (Jvm.Cond.static ({ cls := "InnRoadLaw", name := "skippingStages", desc := "(LInnRoad;II[J)I" } : Jvm.MethodName)) ∈ lw_all := lw_g (lw_at lw_m10 3 rfl) rfl
theorem q2233 : (Jvm.Cond.codeWith ({ cls := "InnRoadLaw", name := "skippingStages", desc := "(LInnRoad;II[J)I" } : Jvm.MethodName) method_38_code (5 : Nat) (Option.some Jvm.ClassFile.FieldType.int) [((0 : Nat), (10 : Nat), (13 : Nat), (31 : Nat))]) ∈ lw_all := lw_g (lw_at lw_m10 4 rfl) rfl
theorem q2234 : (Jvm.Cond.methodLink "InnRoadLaw" (126 : Nat) ({ cls := "InnRoad", name := "skippingStages", desc := "(II)I" } : Jvm.MethodName)) ∈ lw_all := lw_g (lw_at lw_m10 5 rfl) rfl
theorem q2238 : (Jvm.Cond.methodLink "InnRoadLaw" (359 : Nat) ({ cls := "InnRoadLaw", name := "nearestOpenInn", desc := "(LInnRoad;I[J)I" } : Jvm.MethodName)) ∈ lw_all := lw_g (lw_at lw_m10 9 rfl) rfl
theorem q2239 : (Jvm.Cond.static ({ cls := "InnRoadLaw", name := "nearestOpenInn", desc := "(LInnRoad;I[J)I" } : Jvm.MethodName)) ∈ lw_all := lw_g (lw_at lw_m10 10 rfl) rfl
theorem q2240 : (Jvm.Cond.codeWith ({ cls := "InnRoadLaw", name := "nearestOpenInn", desc := "(LInnRoad;I[J)I" } : Jvm.MethodName) method_39_code (4 : Nat) (Option.some Jvm.ClassFile.FieldType.int) [((0 : Nat), (9 : Nat), (12 : Nat), (31 : Nat))]) ∈ lw_all := lw_g (lw_at lw_m10 11 rfl) rfl
theorem q2241 : (Jvm.Cond.methodLink "InnRoadLaw" (129 : Nat) ({ cls := "InnRoad", name := "nearestOpenInn", desc := "(I)I" } : Jvm.MethodName)) ∈ lw_all := lw_g (lw_at lw_m10 12 rfl) rfl
theorem q2296 : (Jvm.Cond.methodLink "InnRoadLaw" (366 : Nat) ({ cls := "InnRoadLaw", name := "written", desc := "(LInnRoad;I[J)I" } : Jvm.MethodName)) ∈ lw_all := lw_g (lw_at lw_m10 67 rfl) rfl
theorem q2297 : (Jvm.Cond.static ({ cls := "InnRoadLaw", name := "written", desc := "(LInnRoad;I[J)I" } : Jvm.MethodName)) ∈ lw_all := lw_g (lw_at lw_m10 68 rfl) rfl
theorem q2298 : (Jvm.Cond.codeWith ({ cls := "InnRoadLaw", name := "written", desc := "(LInnRoad;I[J)I" } : Jvm.MethodName) method_40_code (4 : Nat) (Option.some Jvm.ClassFile.FieldType.int) [((0 : Nat), (9 : Nat), (12 : Nat), (31 : Nat))]) ∈ lw_all := lw_g (lw_at lw_m10 69 rfl) rfl
theorem q2299 : (Jvm.Cond.methodLink "InnRoadLaw" (132 : Nat) ({ cls := "InnRoad", name := "written", desc := "(I)I" } : Jvm.MethodName)) ∈ lw_all := lw_g (lw_at lw_m10 70 rfl) rfl
theorem q2314 : (Jvm.Cond.methodLink "InnRoadLaw" (145 : Nat) ({ cls := "InnRoadModel", name := "thrown", desc := "()I" } : Jvm.MethodName)) ∈ lw_all := lw_g (lw_at lw_m10 85 rfl) rfl
theorem q2318 : (Jvm.Cond.classLink "InnRoadLaw" (136 : Nat) "InnRoadModel") ∈ lw_all := lw_g (lw_at lw_m10 89 rfl) rfl
theorem q2320 : (Jvm.Cond.methodLink "InnRoadLaw" (138 : Nat) ({ cls := "InnRoadModel", name := "<init>", desc := "()V" } : Jvm.MethodName)) ∈ lw_all := lw_g (lw_at lw_m10 91 rfl) rfl
theorem q2414 : (Jvm.Cond.methodLink "InnRoadLaw" (144 : Nat) ({ cls := "InnRoadModel", name := "append", desc := "(IIIII)I" } : Jvm.MethodName)) ∈ lw_all := lw_g (lw_at lw_m10 185 rfl) rfl
theorem q2429 : (Jvm.Cond.methodLink "InnRoadLaw" (151 : Nat) ({ cls := "InnRoadModel", name := "truncate", desc := "(I)I" } : Jvm.MethodName)) ∈ lw_all := lw_g (lw_at lw_m10 200 rfl) rfl
theorem q2436 : (Jvm.Cond.methodLink "InnRoadLaw" (155 : Nat) ({ cls := "InnRoadModel", name := "errorPosition", desc := "()I" } : Jvm.MethodName)) ∈ lw_all := lw_g (lw_at lw_m10 207 rfl) rfl
theorem q2514 : (Jvm.Cond.methodLink "InnRoadLaw" (159 : Nat) ({ cls := "InnRoadModel", name := "load", desc := "()I" } : Jvm.MethodName)) ∈ lw_all := lw_g (lw_at lw_m11 45 rfl) rfl
theorem q2525 : (Jvm.Cond.methodLink "InnRoadLaw" (162 : Nat) ({ cls := "InnRoadModel", name := "addInn", desc := "(I)I" } : Jvm.MethodName)) ∈ lw_all := lw_g (lw_at lw_m11 56 rfl) rfl
theorem q2549 : (Jvm.Cond.methodLink "InnRoadLaw" (165 : Nat) ({ cls := "InnRoadModel", name := "removeInn", desc := "(I)I" } : Jvm.MethodName)) ∈ lw_all := lw_g (lw_at lw_m11 80 rfl) rfl
theorem q2553 : (Jvm.Cond.methodLink "InnRoadLaw" (168 : Nat) ({ cls := "InnRoadModel", name := "openInn", desc := "(I)Z" } : Jvm.MethodName)) ∈ lw_all := lw_g (lw_at lw_m11 84 rfl) rfl
theorem q2561 : (Jvm.Cond.methodLink "InnRoadLaw" (171 : Nat) ({ cls := "InnRoadModel", name := "closeInn", desc := "(I)Z" } : Jvm.MethodName)) ∈ lw_all := lw_g (lw_at lw_m11 92 rfl) rfl
theorem q2565 : (Jvm.Cond.methodLink "InnRoadLaw" (175 : Nat) ({ cls := "InnRoadModel", name := "snow", desc := "(II)I" } : Jvm.MethodName)) ∈ lw_all := lw_g (lw_at lw_m11 96 rfl) rfl
theorem q2569 : (Jvm.Cond.methodLink "InnRoadLaw" (179 : Nat) ({ cls := "InnRoadModel", name := "thaw", desc := "()I" } : Jvm.MethodName)) ∈ lw_all := lw_g (lw_at lw_m11 100 rfl) rfl
theorem q2573 : (Jvm.Cond.methodLink "InnRoadLaw" (182 : Nat) ({ cls := "InnRoadModel", name := "setRange", desc := "(I)I" } : Jvm.MethodName)) ∈ lw_all := lw_g (lw_at lw_m11 104 rfl) rfl
theorem q2577 : (Jvm.Cond.methodLink "InnRoadLaw" (185 : Nat) ({ cls := "InnRoadModel", name := "setNext", desc := "(II)I" } : Jvm.MethodName)) ∈ lw_all := lw_g (lw_at lw_m11 108 rfl) rfl
theorem q2589 : (Jvm.Cond.methodLink "InnRoadLaw" (188 : Nat) ({ cls := "InnRoadModel", name := "setSkip", desc := "(II)I" } : Jvm.MethodName)) ∈ lw_all := lw_g (lw_at lw_m11 120 rfl) rfl
theorem q2593 : (Jvm.Cond.methodLink "InnRoadLaw" (191 : Nat) ({ cls := "InnRoadModel", name := "setFirst", desc := "(I)I" } : Jvm.MethodName)) ∈ lw_all := lw_g (lw_at lw_m11 124 rfl) rfl
theorem q2597 : (Jvm.Cond.methodLink "InnRoadLaw" (194 : Nat) ({ cls := "InnRoadModel", name := "setSecond", desc := "(I)I" } : Jvm.MethodName)) ∈ lw_all := lw_g (lw_at lw_m11 128 rfl) rfl
theorem q2601 : (Jvm.Cond.methodLink "InnRoadLaw" (197 : Nat) ({ cls := "InnRoadModel", name := "setStoredCount", desc := "(I)I" } : Jvm.MethodName)) ∈ lw_all := lw_g (lw_at lw_m11 132 rfl) rfl
theorem q2606 : (Jvm.Cond.methodLink "InnRoadLaw" (200 : Nat) ({ cls := "InnRoadModel", name := "repair", desc := "()I" } : Jvm.MethodName)) ∈ lw_all := lw_g (lw_at lw_m11 137 rfl) rfl
theorem q2621 : (Jvm.Cond.methodLink "InnRoadLaw" (204 : Nat) ({ cls := "InnRoadModel", name := "rebuild", desc := "()I" } : Jvm.MethodName)) ∈ lw_all := lw_g (lw_at lw_m11 152 rfl) rfl
theorem q2629 : (Jvm.Cond.methodLink "InnRoadLaw" (207 : Nat) ({ cls := "InnRoadModel", name := "leaveLetters", desc := "(II)I" } : Jvm.MethodName)) ∈ lw_all := lw_g (lw_at lw_m11 160 rfl) rfl
theorem q2634 : (Jvm.Cond.methodLink "InnRoadLaw" (210 : Nat) ({ cls := "InnRoadModel", name := "send", desc := "(II)I" } : Jvm.MethodName)) ∈ lw_all := lw_g (lw_at lw_m11 165 rfl) rfl
theorem q2649 : (Jvm.Cond.methodLink "InnRoadLaw" (213 : Nat) ({ cls := "InnRoadModel", name := "restore", desc := "()I" } : Jvm.MethodName)) ∈ lw_all := lw_g (lw_at lw_m11 180 rfl) rfl
theorem q2653 : (Jvm.Cond.methodLink "InnRoadLaw" (216 : Nat) ({ cls := "InnRoadModel", name := "undo", desc := "()I" } : Jvm.MethodName)) ∈ lw_all := lw_g (lw_at lw_m11 184 rfl) rfl
theorem q2657 : (Jvm.Cond.methodLink "InnRoadLaw" (220 : Nat) ({ cls := "InnRoadModel", name := "undoCount", desc := "()I" } : Jvm.MethodName)) ∈ lw_all := lw_g (lw_at lw_m11 188 rfl) rfl
theorem q2661 : (Jvm.Cond.methodLink "InnRoadLaw" (224 : Nat) ({ cls := "InnRoadModel", name := "save", desc := "()I" } : Jvm.MethodName)) ∈ lw_all := lw_g (lw_at lw_m11 192 rfl) rfl
theorem q2665 : (Jvm.Cond.methodLink "InnRoadLaw" (228 : Nat) ({ cls := "InnRoadModel", name := "inns", desc := "()I" } : Jvm.MethodName)) ∈ lw_all := lw_g (lw_at lw_m11 196 rfl) rfl
theorem q2669 : (Jvm.Cond.methodLink "InnRoadLaw" (231 : Nat) ({ cls := "InnRoadModel", name := "hasInn", desc := "(I)Z" } : Jvm.MethodName)) ∈ lw_all := lw_g (lw_at lw_m11 200 rfl) rfl
theorem q2673 : (Jvm.Cond.methodLink "InnRoadLaw" (234 : Nat) ({ cls := "InnRoadModel", name := "mile", desc := "(I)I" } : Jvm.MethodName)) ∈ lw_all := lw_g (lw_at lw_m11 204 rfl) rfl
theorem q2681 : (Jvm.Cond.methodLink "InnRoadLaw" (237 : Nat) ({ cls := "InnRoadModel", name := "next", desc := "(I)I" } : Jvm.MethodName)) ∈ lw_all := lw_g (lw_at lw_m11 212 rfl) rfl
theorem q2685 : (Jvm.Cond.methodLink "InnRoadLaw" (240 : Nat) ({ cls := "InnRoadModel", name := "skip", desc := "(I)I" } : Jvm.MethodName)) ∈ lw_all := lw_g (lw_at lw_m11 216 rfl) rfl
theorem q2689 : (Jvm.Cond.methodLink "InnRoadLaw" (243 : Nat) ({ cls := "InnRoadModel", name := "isOpen", desc := "(I)Z" } : Jvm.MethodName)) ∈ lw_all := lw_g (lw_at lw_m11 220 rfl) rfl
theorem q2693 : (Jvm.Cond.methodLink "InnRoadLaw" (246 : Nat) ({ cls := "InnRoadModel", name := "letters", desc := "(I)I" } : Jvm.MethodName)) ∈ lw_all := lw_g (lw_at lw_m11 224 rfl) rfl
theorem q2697 : (Jvm.Cond.methodLink "InnRoadLaw" (250 : Nat) ({ cls := "InnRoadModel", name := "first", desc := "()I" } : Jvm.MethodName)) ∈ lw_all := lw_g (lw_at lw_m11 228 rfl) rfl
theorem q2701 : (Jvm.Cond.methodLink "InnRoadLaw" (254 : Nat) ({ cls := "InnRoadModel", name := "second", desc := "()I" } : Jvm.MethodName)) ∈ lw_all := lw_g (lw_at lw_m11 232 rfl) rfl
theorem q2705 : (Jvm.Cond.methodLink "InnRoadLaw" (258 : Nat) ({ cls := "InnRoadModel", name := "storedCount", desc := "()I" } : Jvm.MethodName)) ∈ lw_all := lw_g (lw_at lw_m11 236 rfl) rfl
theorem q2709 : (Jvm.Cond.methodLink "InnRoadLaw" (262 : Nat) ({ cls := "InnRoadModel", name := "range", desc := "()I" } : Jvm.MethodName)) ∈ lw_all := lw_g (lw_at lw_m12 0 rfl) rfl
theorem q2713 : (Jvm.Cond.methodLink "InnRoadLaw" (266 : Nat) ({ cls := "InnRoadModel", name := "openInns", desc := "()I" } : Jvm.MethodName)) ∈ lw_all := lw_g (lw_at lw_m12 4 rfl) rfl
theorem q2721 : (Jvm.Cond.methodLink "InnRoadLaw" (270 : Nat) ({ cls := "InnRoadModel", name := "innAtMile", desc := "(I)I" } : Jvm.MethodName)) ∈ lw_all := lw_g (lw_at lw_m12 12 rfl) rfl
theorem q2725 : (Jvm.Cond.methodLink "InnRoadLaw" (274 : Nat) ({ cls := "InnRoadModel", name := "totalLetters", desc := "()I" } : Jvm.MethodName)) ∈ lw_all := lw_g (lw_at lw_m12 16 rfl) rfl
theorem q2729 : (Jvm.Cond.methodLink "InnRoadLaw" (278 : Nat) ({ cls := "InnRoadModel", name := "stagesRidden", desc := "()I" } : Jvm.MethodName)) ∈ lw_all := lw_g (lw_at lw_m12 20 rfl) rfl
theorem q2733 : (Jvm.Cond.methodLink "InnRoadLaw" (282 : Nat) ({ cls := "InnRoadModel", name := "lettersDelivered", desc := "()I" } : Jvm.MethodName)) ∈ lw_all := lw_g (lw_at lw_m12 24 rfl) rfl
theorem q2737 : (Jvm.Cond.methodLink "InnRoadLaw" (287 : Nat) ({ cls := "InnRoadModel", name := "meanGap", desc := "()D" } : Jvm.MethodName)) ∈ lw_all := lw_g (lw_at lw_m12 28 rfl) rfl
theorem q2743 : (Jvm.Cond.methodLink "InnRoadLaw" (292 : Nat) ({ cls := "InnRoadModel", name := "openShare", desc := "()F" } : Jvm.MethodName)) ∈ lw_all := lw_g (lw_at lw_m12 34 rfl) rfl
theorem q2747 : (Jvm.Cond.methodLink "InnRoadLaw" (297 : Nat) ({ cls := "InnRoadModel", name := "isConsistent", desc := "()Z" } : Jvm.MethodName)) ∈ lw_all := lw_g (lw_at lw_m12 38 rfl) rfl
theorem q2751 : (Jvm.Cond.methodLink "InnRoadLaw" (301 : Nat) ({ cls := "InnRoadModel", name := "chainLength", desc := "()I" } : Jvm.MethodName)) ∈ lw_all := lw_g (lw_at lw_m12 42 rfl) rfl
theorem q2755 : (Jvm.Cond.methodLink "InnRoadLaw" (304 : Nat) ({ cls := "InnRoadModel", name := "chainInn", desc := "(I)I" } : Jvm.MethodName)) ∈ lw_all := lw_g (lw_at lw_m12 46 rfl) rfl
theorem q2759 : (Jvm.Cond.methodLink "InnRoadLaw" (307 : Nat) ({ cls := "InnRoadModel", name := "position", desc := "(I)I" } : Jvm.MethodName)) ∈ lw_all := lw_g (lw_at lw_m12 50 rfl) rfl
theorem q2763 : (Jvm.Cond.methodLink "InnRoadLaw" (311 : Nat) ({ cls := "InnRoadModel", name := "hasCycle", desc := "()Z" } : Jvm.MethodName)) ∈ lw_all := lw_g (lw_at lw_m12 54 rfl) rfl
theorem q2767 : (Jvm.Cond.methodLink "InnRoadLaw" (315 : Nat) ({ cls := "InnRoadModel", name := "danglingPointers", desc := "()I" } : Jvm.MethodName)) ∈ lw_all := lw_g (lw_at lw_m12 58 rfl) rfl
theorem q2775 : (Jvm.Cond.methodLink "InnRoadLaw" (319 : Nat) ({ cls := "InnRoadModel", name := "wrongValues", desc := "()I" } : Jvm.MethodName)) ∈ lw_all := lw_g (lw_at lw_m12 66 rfl) rfl
theorem q2779 : (Jvm.Cond.methodLink "InnRoadLaw" (323 : Nat) ({ cls := "InnRoadModel", name := "descents", desc := "()I" } : Jvm.MethodName)) ∈ lw_all := lw_g (lw_at lw_m12 70 rfl) rfl
theorem q2783 : (Jvm.Cond.methodLink "InnRoadLaw" (327 : Nat) ({ cls := "InnRoadModel", name := "hasSingleFault", desc := "()Z" } : Jvm.MethodName)) ∈ lw_all := lw_g (lw_at lw_m12 74 rfl) rfl
theorem q2787 : (Jvm.Cond.methodLink "InnRoadLaw" (331 : Nat) ({ cls := "InnRoadModel", name := "faultyInn", desc := "()I" } : Jvm.MethodName)) ∈ lw_all := lw_g (lw_at lw_m12 78 rfl) rfl
theorem q2791 : (Jvm.Cond.methodLink "InnRoadLaw" (334 : Nat) ({ cls := "InnRoadModel", name := "isReachable", desc := "(II)Z" } : Jvm.MethodName)) ∈ lw_all := lw_g (lw_at lw_m12 82 rfl) rfl
theorem q2799 : (Jvm.Cond.methodLink "InnRoadLaw" (337 : Nat) ({ cls := "InnRoadModel", name := "stages", desc := "(II)I" } : Jvm.MethodName)) ∈ lw_all := lw_g (lw_at lw_m12 90 rfl) rfl
theorem q2803 : (Jvm.Cond.methodLink "InnRoadLaw" (340 : Nat) ({ cls := "InnRoadModel", name := "rideLength", desc := "(II)I" } : Jvm.MethodName)) ∈ lw_all := lw_g (lw_at lw_m12 94 rfl) rfl
theorem q2807 : (Jvm.Cond.methodLink "InnRoadLaw" (343 : Nat) ({ cls := "InnRoadModel", name := "stuckAt", desc := "(II)I" } : Jvm.MethodName)) ∈ lw_all := lw_g (lw_at lw_m12 98 rfl) rfl
theorem q2811 : (Jvm.Cond.methodLink "InnRoadLaw" (346 : Nat) ({ cls := "InnRoadModel", name := "neededInns", desc := "(II)I" } : Jvm.MethodName)) ∈ lw_all := lw_g (lw_at lw_m12 102 rfl) rfl
theorem q2815 : (Jvm.Cond.methodLink "InnRoadLaw" (349 : Nat) ({ cls := "InnRoadModel", name := "leastRange", desc := "(II)I" } : Jvm.MethodName)) ∈ lw_all := lw_g (lw_at lw_m12 106 rfl) rfl
theorem q2819 : (Jvm.Cond.methodLink "InnRoadLaw" (352 : Nat) ({ cls := "InnRoadModel", name := "helpfulOpening", desc := "(II)I" } : Jvm.MethodName)) ∈ lw_all := lw_g (lw_at lw_m12 110 rfl) rfl
theorem q2823 : (Jvm.Cond.methodLink "InnRoadLaw" (355 : Nat) ({ cls := "InnRoadModel", name := "reachableInns", desc := "(I)I" } : Jvm.MethodName)) ∈ lw_all := lw_g (lw_at lw_m12 114 rfl) rfl
theorem q2827 : (Jvm.Cond.methodLink "InnRoadLaw" (358 : Nat) ({ cls := "InnRoadModel", name := "skippingStages", desc := "(II)I" } : Jvm.MethodName)) ∈ lw_all := lw_g (lw_at lw_m12 118 rfl) rfl
theorem q2831 : (Jvm.Cond.methodLink "InnRoadLaw" (361 : Nat) ({ cls := "InnRoadModel", name := "nearestOpenInn", desc := "(I)I" } : Jvm.MethodName)) ∈ lw_all := lw_g (lw_at lw_m12 122 rfl) rfl
theorem q2835 : (Jvm.Cond.methodLink "InnRoadLaw" (365 : Nat) ({ cls := "InnRoadModel", name := "write", desc := "()I" } : Jvm.MethodName)) ∈ lw_all := lw_g (lw_at lw_m12 126 rfl) rfl
theorem q2881 : (Jvm.Cond.methodLink "InnRoadLaw" (368 : Nat) ({ cls := "InnRoadModel", name := "written", desc := "(I)I" } : Jvm.MethodName)) ∈ lw_all := lw_g (lw_at lw_m12 172 rfl) rfl
/-! the law's own entry -/
set_option maxRecDepth 100000
abbrev cL_law : ByteArray := code
def dkwL_law_120 : List UInt8 := [167, 0, 3, 132, 4, 6, 167, 244, 53, 4, 172]
abbrev dktL_law_120 : List UInt8 := dkwL_law_120 ++ []
def dkwL_law_119 : List UInt8 := [159, 0, 5, 3, 172, 21, 5, 154, 0, 15, 45, 3, 47, 21, 6, 133, 148, 153, 0, 5, 3, 172]
abbrev dktL_law_119 : List UInt8 := dkwL_law_119 ++ dktL_law_120
def dkwL_law_118 : List UInt8 := [184, 1, 110, 54, 5, 44, 42, 21, 4, 4, 96, 46, 182, 1, 112, 54, 6, 44, 182, 0, 145, 21, 5]
abbrev dktL_law_118 : List UInt8 := dkwL_law_118 ++ dktL_law_119
def dkwL_law_117 : List UInt8 := [167, 0, 72, 43, 182, 1, 106, 44, 182, 1, 109, 159, 0, 61, 3, 172, 43, 42, 21, 4, 4, 96, 46, 45]
abbrev dktL_law_117 : List UInt8 := dkwL_law_117 ++ dktL_law_118
def dkwL_law_116 : List UInt8 := [159, 0, 5, 3, 172, 21, 5, 154, 0, 15, 45, 3, 47, 21, 6, 133, 148, 153, 0, 5, 3, 172]
abbrev dktL_law_116 : List UInt8 := dkwL_law_116 ++ dktL_law_117
def dkwL_law_115 : List UInt8 := [184, 1, 103, 54, 5, 44, 42, 21, 4, 4, 96, 46, 182, 1, 105, 54, 6, 44, 182, 0, 145, 21, 5]
abbrev dktL_law_115 : List UInt8 := dkwL_law_115 ++ dktL_law_116
def dkwL_law_114 : List UInt8 := [3, 47, 21, 6, 133, 148, 153, 0, 5, 3, 172, 167, 0, 128, 43, 42, 21, 4, 4, 96, 46, 45]
abbrev dktL_law_114 : List UInt8 := dkwL_law_114 ++ dktL_law_115
def dkwL_law_113 : List UInt8 := [96, 46, 182, 1, 102, 54, 6, 44, 182, 0, 145, 21, 5, 159, 0, 5, 3, 172, 21, 5, 154, 0, 15, 45]
abbrev dktL_law_113 : List UInt8 := dkwL_law_113 ++ dktL_law_114
def dkwL_law_112 : List UInt8 := [46, 42, 21, 4, 5, 96, 46, 45, 184, 1, 100, 54, 5, 44, 42, 21, 4, 4, 96, 46, 42, 21, 4, 5]
abbrev dktL_law_112 : List UInt8 := dkwL_law_112 ++ dktL_law_113
def dkwL_law_111 : List UInt8 := [154, 0, 15, 45, 3, 47, 21, 6, 133, 148, 153, 0, 5, 3, 172, 167, 0, 196, 43, 42, 21, 4, 4, 96]
abbrev dktL_law_111 : List UInt8 := dkwL_law_111 ++ dktL_law_112
def dkwL_law_110 : List UInt8 := [21, 4, 4, 96, 46, 182, 1, 99, 54, 6, 44, 182, 0, 145, 21, 5, 159, 0, 5, 3, 172, 21, 5]
abbrev dktL_law_110 : List UInt8 := dkwL_law_110 ++ dktL_law_111
def dkwL_law_109 : List UInt8 := [153, 0, 5, 3, 172, 167, 0, 252, 43, 42, 21, 4, 4, 96, 46, 45, 184, 1, 97, 54, 5, 44, 42]
abbrev dktL_law_109 : List UInt8 := dkwL_law_109 ++ dktL_law_110
def dkwL_law_108 : List UInt8 := [182, 0, 145, 21, 5, 159, 0, 5, 3, 172, 21, 5, 154, 0, 15, 45, 3, 47, 21, 6, 133, 148]
abbrev dktL_law_108 : List UInt8 := dkwL_law_108 ++ dktL_law_109
def dkwL_law_107 : List UInt8 := [184, 1, 94, 54, 5, 44, 42, 21, 4, 4, 96, 46, 42, 21, 4, 5, 96, 46, 182, 1, 96, 54, 6, 44]
abbrev dktL_law_107 : List UInt8 := dkwL_law_107 ++ dktL_law_108
def dkwL_law_106 : List UInt8 := [153, 0, 5, 3, 172, 167, 1, 64, 43, 42, 21, 4, 4, 96, 46, 42, 21, 4, 5, 96, 46, 45]
abbrev dktL_law_106 : List UInt8 := dkwL_law_106 ++ dktL_law_107
def dkwL_law_105 : List UInt8 := [182, 0, 145, 21, 5, 159, 0, 5, 3, 172, 21, 5, 154, 0, 15, 45, 3, 47, 21, 6, 133, 148]
abbrev dktL_law_105 : List UInt8 := dkwL_law_105 ++ dktL_law_106
def dkwL_law_104 : List UInt8 := [184, 1, 91, 54, 5, 44, 42, 21, 4, 4, 96, 46, 42, 21, 4, 5, 96, 46, 182, 1, 93, 54, 6, 44]
abbrev dktL_law_104 : List UInt8 := dkwL_law_104 ++ dktL_law_105
def dkwL_law_103 : List UInt8 := [153, 0, 5, 3, 172, 167, 1, 132, 43, 42, 21, 4, 4, 96, 46, 42, 21, 4, 5, 96, 46, 45]
abbrev dktL_law_103 : List UInt8 := dkwL_law_103 ++ dktL_law_104
def dkwL_law_102 : List UInt8 := [182, 0, 145, 21, 5, 159, 0, 5, 3, 172, 21, 5, 154, 0, 15, 45, 3, 47, 21, 6, 133, 148]
abbrev dktL_law_102 : List UInt8 := dkwL_law_102 ++ dktL_law_103
def dkwL_law_101 : List UInt8 := [184, 1, 88, 54, 5, 44, 42, 21, 4, 4, 96, 46, 42, 21, 4, 5, 96, 46, 182, 1, 90, 54, 6, 44]
abbrev dktL_law_101 : List UInt8 := dkwL_law_101 ++ dktL_law_102
def dkwL_law_100 : List UInt8 := [153, 0, 5, 3, 172, 167, 1, 200, 43, 42, 21, 4, 4, 96, 46, 42, 21, 4, 5, 96, 46, 45]
abbrev dktL_law_100 : List UInt8 := dkwL_law_100 ++ dktL_law_101
def dkwL_law_99 : List UInt8 := [182, 0, 145, 21, 5, 159, 0, 5, 3, 172, 21, 5, 154, 0, 15, 45, 3, 47, 21, 6, 133, 148]
abbrev dktL_law_99 : List UInt8 := dkwL_law_99 ++ dktL_law_100
def dkwL_law_98 : List UInt8 := [184, 1, 85, 54, 5, 44, 42, 21, 4, 4, 96, 46, 42, 21, 4, 5, 96, 46, 182, 1, 87, 54, 6, 44]
abbrev dktL_law_98 : List UInt8 := dkwL_law_98 ++ dktL_law_99
def dkwL_law_97 : List UInt8 := [153, 0, 5, 3, 172, 167, 2, 12, 43, 42, 21, 4, 4, 96, 46, 42, 21, 4, 5, 96, 46, 45]
abbrev dktL_law_97 : List UInt8 := dkwL_law_97 ++ dktL_law_98
def dkwL_law_96 : List UInt8 := [182, 0, 145, 21, 5, 159, 0, 5, 3, 172, 21, 5, 154, 0, 15, 45, 3, 47, 21, 6, 133, 148]
abbrev dktL_law_96 : List UInt8 := dkwL_law_96 ++ dktL_law_97
def dkwL_law_95 : List UInt8 := [184, 1, 82, 54, 5, 44, 42, 21, 4, 4, 96, 46, 42, 21, 4, 5, 96, 46, 182, 1, 84, 54, 6, 44]
abbrev dktL_law_95 : List UInt8 := dkwL_law_95 ++ dktL_law_96
def dkwL_law_94 : List UInt8 := [148, 153, 0, 5, 3, 172, 167, 2, 80, 43, 42, 21, 4, 4, 96, 46, 42, 21, 4, 5, 96, 46, 45]
abbrev dktL_law_94 : List UInt8 := dkwL_law_94 ++ dktL_law_95
def dkwL_law_93 : List UInt8 := [54, 6, 44, 182, 0, 145, 21, 5, 159, 0, 5, 3, 172, 21, 5, 154, 0, 15, 45, 3, 47, 21, 6, 133]
abbrev dktL_law_93 : List UInt8 := dkwL_law_93 ++ dktL_law_94
def dkwL_law_92 : List UInt8 := [96, 46, 45, 184, 1, 79, 54, 5, 44, 42, 21, 4, 4, 96, 46, 42, 21, 4, 5, 96, 46, 182, 1, 81]
abbrev dktL_law_92 : List UInt8 := dkwL_law_92 ++ dktL_law_93
def dkwL_law_91 : List UInt8 := [167, 0, 4, 9, 148, 153, 0, 5, 3, 172, 167, 2, 148, 43, 42, 21, 4, 4, 96, 46, 42, 21, 4, 5]
abbrev dktL_law_91 : List UInt8 := dkwL_law_91 ++ dktL_law_92
def dkwL_law_90 : List UInt8 := [182, 0, 145, 21, 5, 159, 0, 5, 3, 172, 21, 5, 154, 0, 22, 45, 3, 47, 21, 6, 153, 0, 7, 10]
abbrev dktL_law_90 : List UInt8 := dkwL_law_90 ++ dktL_law_91
def dkwL_law_89 : List UInt8 := [184, 1, 76, 54, 5, 44, 42, 21, 4, 4, 96, 46, 42, 21, 4, 5, 96, 46, 182, 1, 78, 54, 6, 44]
abbrev dktL_law_89 : List UInt8 := dkwL_law_89 ++ dktL_law_90
def dkwL_law_88 : List UInt8 := [182, 1, 75, 159, 2, 225, 3, 172, 43, 42, 21, 4, 4, 96, 46, 42, 21, 4, 5, 96, 46, 45]
abbrev dktL_law_88 : List UInt8 := dkwL_law_88 ++ dktL_law_89
def dkwL_law_87 : List UInt8 := [159, 2, 251, 3, 172, 43, 182, 1, 68, 44, 182, 1, 71, 159, 2, 238, 3, 172, 43, 182, 1, 72, 44]
abbrev dktL_law_87 : List UInt8 := dkwL_law_87 ++ dktL_law_88
def dkwL_law_86 : List UInt8 := [172, 43, 182, 1, 60, 44, 182, 1, 63, 159, 3, 8, 3, 172, 43, 182, 1, 64, 44, 182, 1, 67]
abbrev dktL_law_86 : List UInt8 := dkwL_law_86 ++ dktL_law_87
def dkwL_law_85 : List UInt8 := [182, 1, 52, 44, 182, 1, 55, 159, 3, 34, 3, 172, 43, 182, 1, 56, 44, 182, 1, 59, 159, 3, 21, 3]
abbrev dktL_law_85 : List UInt8 := dkwL_law_85 ++ dktL_law_86
def dkwL_law_84 : List UInt8 := [172, 21, 5, 154, 0, 15, 45, 3, 47, 21, 6, 133, 148, 153, 0, 5, 3, 172, 167, 3, 45, 43]
abbrev dktL_law_84 : List UInt8 := dkwL_law_84 ++ dktL_law_85
def dkwL_law_83 : List UInt8 := [54, 5, 44, 42, 21, 4, 4, 96, 46, 182, 1, 51, 54, 6, 44, 182, 0, 145, 21, 5, 159, 0, 5, 3]
abbrev dktL_law_83 : List UInt8 := dkwL_law_83 ++ dktL_law_84
def dkwL_law_82 : List UInt8 := [21, 6, 133, 148, 153, 0, 5, 3, 172, 167, 3, 101, 43, 42, 21, 4, 4, 96, 46, 45, 184, 1, 49]
abbrev dktL_law_82 : List UInt8 := dkwL_law_82 ++ dktL_law_83
def dkwL_law_81 : List UInt8 := [182, 1, 48, 54, 6, 44, 182, 0, 145, 21, 5, 159, 0, 5, 3, 172, 21, 5, 154, 0, 15, 45, 3, 47]
abbrev dktL_law_81 : List UInt8 := dkwL_law_81 ++ dktL_law_82
def dkwL_law_80 : List UInt8 := [3, 172, 43, 42, 21, 4, 4, 96, 46, 45, 184, 1, 46, 54, 5, 44, 42, 21, 4, 4, 96, 46]
abbrev dktL_law_80 : List UInt8 := dkwL_law_80 ++ dktL_law_81
def dkwL_law_79 : List UInt8 := [43, 182, 1, 37, 44, 182, 1, 41, 159, 3, 172, 3, 172, 43, 182, 1, 42, 44, 182, 1, 45, 159, 3, 159]
abbrev dktL_law_79 : List UInt8 := dkwL_law_79 ++ dktL_law_80
def dkwL_law_78 : List UInt8 := [153, 0, 21, 24, 5, 24, 5, 151, 153, 0, 11, 24, 7, 24, 7, 151, 154, 0, 5, 3, 172, 167, 3, 183]
abbrev dktL_law_78 : List UInt8 := dkwL_law_78 ++ dktL_law_79
def dkwL_law_77 : List UInt8 := [3, 172, 167, 3, 226, 43, 182, 1, 32, 141, 57, 5, 44, 182, 1, 36, 141, 57, 7, 24, 5, 24, 7, 151]
abbrev dktL_law_77 : List UInt8 := dkwL_law_77 ++ dktL_law_78
def dkwL_law_76 : List UInt8 := [24, 5, 24, 7, 151, 153, 0, 21, 24, 5, 24, 5, 151, 153, 0, 11, 24, 7, 24, 7, 151, 154, 0, 5]
abbrev dktL_law_76 : List UInt8 := dkwL_law_76 ++ dktL_law_77
def dkwL_law_75 : List UInt8 := [182, 1, 23, 44, 182, 1, 26, 159, 4, 13, 3, 172, 43, 182, 1, 27, 57, 5, 44, 182, 1, 31, 57, 7]
abbrev dktL_law_75 : List UInt8 := dkwL_law_75 ++ dktL_law_76
def dkwL_law_74 : List UInt8 := [182, 1, 18, 159, 4, 39, 3, 172, 43, 182, 1, 19, 44, 182, 1, 22, 159, 4, 26, 3, 172, 43]
abbrev dktL_law_74 : List UInt8 := dkwL_law_74 ++ dktL_law_75
def dkwL_law_73 : List UInt8 := [46, 182, 1, 11, 44, 42, 21, 4, 4, 96, 46, 182, 1, 14, 159, 4, 52, 3, 172, 43, 182, 1, 15, 44]
abbrev dktL_law_73 : List UInt8 := dkwL_law_73 ++ dktL_law_74
def dkwL_law_72 : List UInt8 := [159, 4, 90, 3, 172, 43, 182, 1, 7, 44, 182, 1, 10, 159, 4, 77, 3, 172, 43, 42, 21, 4, 4, 96]
abbrev dktL_law_72 : List UInt8 := dkwL_law_72 ++ dktL_law_73
def dkwL_law_71 : List UInt8 := [172, 43, 182, 0, 255, 44, 182, 1, 2, 159, 4, 103, 3, 172, 43, 182, 1, 3, 44, 182, 1, 6]
abbrev dktL_law_71 : List UInt8 := dkwL_law_71 ++ dktL_law_72
def dkwL_law_70 : List UInt8 := [182, 0, 247, 44, 182, 0, 250, 159, 4, 129, 3, 172, 43, 182, 0, 251, 44, 182, 0, 254, 159, 4, 116, 3]
abbrev dktL_law_70 : List UInt8 := dkwL_law_70 ++ dktL_law_71
def dkwL_law_69 : List UInt8 := [172, 21, 5, 154, 0, 15, 45, 3, 47, 21, 6, 133, 148, 153, 0, 5, 3, 172, 167, 4, 140, 43]
abbrev dktL_law_69 : List UInt8 := dkwL_law_69 ++ dktL_law_70
def dkwL_law_68 : List UInt8 := [54, 5, 44, 42, 21, 4, 4, 96, 46, 182, 0, 246, 54, 6, 44, 182, 0, 145, 21, 5, 159, 0, 5, 3]
abbrev dktL_law_68 : List UInt8 := dkwL_law_68 ++ dktL_law_69
def dkwL_law_67 : List UInt8 := [167, 0, 4, 9, 148, 153, 0, 5, 3, 172, 167, 4, 196, 43, 42, 21, 4, 4, 96, 46, 45, 184, 0, 244]
abbrev dktL_law_67 : List UInt8 := dkwL_law_67 ++ dktL_law_68
def dkwL_law_66 : List UInt8 := [182, 0, 145, 21, 5, 159, 0, 5, 3, 172, 21, 5, 154, 0, 22, 45, 3, 47, 21, 6, 153, 0, 7, 10]
abbrev dktL_law_66 : List UInt8 := dkwL_law_66 ++ dktL_law_67
def dkwL_law_65 : List UInt8 := [21, 4, 4, 96, 46, 45, 184, 0, 241, 54, 5, 44, 42, 21, 4, 4, 96, 46, 182, 0, 243, 54, 6, 44]
abbrev dktL_law_65 : List UInt8 := dkwL_law_65 ++ dktL_law_66
def dkwL_law_64 : List UInt8 := [172, 21, 5, 154, 0, 15, 45, 3, 47, 21, 6, 133, 148, 153, 0, 5, 3, 172, 167, 5, 3, 43, 42]
abbrev dktL_law_64 : List UInt8 := dkwL_law_64 ++ dktL_law_65
def dkwL_law_63 : List UInt8 := [54, 5, 44, 42, 21, 4, 4, 96, 46, 182, 0, 240, 54, 6, 44, 182, 0, 145, 21, 5, 159, 0, 5, 3]
abbrev dktL_law_63 : List UInt8 := dkwL_law_63 ++ dktL_law_64
def dkwL_law_62 : List UInt8 := [21, 6, 133, 148, 153, 0, 5, 3, 172, 167, 5, 59, 43, 42, 21, 4, 4, 96, 46, 45, 184, 0, 238]
abbrev dktL_law_62 : List UInt8 := dkwL_law_62 ++ dktL_law_63
def dkwL_law_61 : List UInt8 := [182, 0, 237, 54, 6, 44, 182, 0, 145, 21, 5, 159, 0, 5, 3, 172, 21, 5, 154, 0, 15, 45, 3, 47]
abbrev dktL_law_61 : List UInt8 := dkwL_law_61 ++ dktL_law_62
def dkwL_law_60 : List UInt8 := [167, 5, 115, 43, 42, 21, 4, 4, 96, 46, 45, 184, 0, 235, 54, 5, 44, 42, 21, 4, 4, 96, 46]
abbrev dktL_law_60 : List UInt8 := dkwL_law_60 ++ dktL_law_61
def dkwL_law_59 : List UInt8 := [159, 0, 5, 3, 172, 21, 5, 154, 0, 15, 45, 3, 47, 21, 6, 133, 148, 153, 0, 5, 3, 172]
abbrev dktL_law_59 : List UInt8 := dkwL_law_59 ++ dktL_law_60
def dkwL_law_58 : List UInt8 := [45, 184, 0, 232, 54, 5, 44, 42, 21, 4, 4, 96, 46, 182, 0, 234, 54, 6, 44, 182, 0, 145, 21, 5]
abbrev dktL_law_58 : List UInt8 := dkwL_law_58 ++ dktL_law_59
def dkwL_law_57 : List UInt8 := [153, 0, 7, 10, 167, 0, 4, 9, 148, 153, 0, 5, 3, 172, 167, 5, 171, 43, 42, 21, 4, 4, 96, 46]
abbrev dktL_law_57 : List UInt8 := dkwL_law_57 ++ dktL_law_58
def dkwL_law_56 : List UInt8 := [54, 6, 44, 182, 0, 145, 21, 5, 159, 0, 5, 3, 172, 21, 5, 154, 0, 22, 45, 3, 47, 21, 6]
abbrev dktL_law_56 : List UInt8 := dkwL_law_56 ++ dktL_law_57
def dkwL_law_55 : List UInt8 := [172, 43, 42, 21, 4, 4, 96, 46, 45, 184, 0, 229, 54, 5, 44, 42, 21, 4, 4, 96, 46, 182, 0, 231]
abbrev dktL_law_55 : List UInt8 := dkwL_law_55 ++ dktL_law_56
def dkwL_law_54 : List UInt8 := [182, 0, 221, 44, 182, 0, 224, 159, 5, 249, 3, 172, 43, 182, 0, 225, 44, 182, 0, 228, 159, 5, 236, 3]
abbrev dktL_law_54 : List UInt8 := dkwL_law_54 ++ dktL_law_55
def dkwL_law_53 : List UInt8 := [148, 153, 0, 5, 3, 172, 167, 6, 17, 43, 182, 0, 217, 44, 182, 0, 220, 159, 6, 6, 3, 172, 43]
abbrev dktL_law_53 : List UInt8 := dkwL_law_53 ++ dktL_law_54
def dkwL_law_52 : List UInt8 := [54, 6, 44, 182, 0, 145, 21, 5, 159, 0, 5, 3, 172, 21, 5, 154, 0, 15, 45, 3, 47, 21, 6, 133]
abbrev dktL_law_52 : List UInt8 := dkwL_law_52 ++ dktL_law_53
def dkwL_law_51 : List UInt8 := [21, 6, 133, 148, 153, 0, 5, 3, 172, 167, 6, 61, 43, 45, 184, 0, 214, 54, 5, 44, 182, 0, 216]
abbrev dktL_law_51 : List UInt8 := dkwL_law_51 ++ dktL_law_52
def dkwL_law_50 : List UInt8 := [182, 0, 213, 54, 6, 44, 182, 0, 145, 21, 5, 159, 0, 5, 3, 172, 21, 5, 154, 0, 15, 45, 3, 47]
abbrev dktL_law_50 : List UInt8 := dkwL_law_50 ++ dktL_law_51
def dkwL_law_49 : List UInt8 := [3, 47, 21, 6, 133, 148, 153, 0, 5, 3, 172, 167, 6, 105, 43, 45, 184, 0, 211, 54, 5, 44]
abbrev dktL_law_49 : List UInt8 := dkwL_law_49 ++ dktL_law_50
def dkwL_law_48 : List UInt8 := [96, 46, 182, 0, 210, 54, 6, 44, 182, 0, 145, 21, 5, 159, 0, 5, 3, 172, 21, 5, 154, 0, 15, 45]
abbrev dktL_law_48 : List UInt8 := dkwL_law_48 ++ dktL_law_49
def dkwL_law_47 : List UInt8 := [46, 42, 21, 4, 5, 96, 46, 45, 184, 0, 208, 54, 5, 44, 42, 21, 4, 4, 96, 46, 42, 21, 4, 5]
abbrev dktL_law_47 : List UInt8 := dkwL_law_47 ++ dktL_law_48
def dkwL_law_46 : List UInt8 := [154, 0, 15, 45, 3, 47, 21, 6, 133, 148, 153, 0, 5, 3, 172, 167, 6, 173, 43, 42, 21, 4, 4, 96]
abbrev dktL_law_46 : List UInt8 := dkwL_law_46 ++ dktL_law_47
def dkwL_law_45 : List UInt8 := [42, 21, 4, 5, 96, 46, 182, 0, 207, 54, 6, 44, 182, 0, 145, 21, 5, 159, 0, 5, 3, 172, 21, 5]
abbrev dktL_law_45 : List UInt8 := dkwL_law_45 ++ dktL_law_46
def dkwL_law_44 : List UInt8 := [21, 4, 4, 96, 46, 42, 21, 4, 5, 96, 46, 45, 184, 0, 205, 54, 5, 44, 42, 21, 4, 4, 96, 46]
abbrev dktL_law_44 : List UInt8 := dkwL_law_44 ++ dktL_law_45
def dkwL_law_43 : List UInt8 := [148, 153, 0, 5, 3, 172, 167, 6, 254, 43, 182, 0, 201, 44, 182, 0, 204, 159, 6, 243, 3, 172, 43, 42]
abbrev dktL_law_43 : List UInt8 := dkwL_law_43 ++ dktL_law_44
def dkwL_law_42 : List UInt8 := [54, 6, 44, 182, 0, 145, 21, 5, 159, 0, 5, 3, 172, 21, 5, 154, 0, 15, 45, 3, 47, 21, 6, 133]
abbrev dktL_law_42 : List UInt8 := dkwL_law_42 ++ dktL_law_43
def dkwL_law_41 : List UInt8 := [21, 6, 133, 148, 153, 0, 5, 3, 172, 167, 7, 42, 43, 45, 184, 0, 198, 54, 5, 44, 182, 0, 200]
abbrev dktL_law_41 : List UInt8 := dkwL_law_41 ++ dktL_law_42
def dkwL_law_40 : List UInt8 := [182, 0, 197, 54, 6, 44, 182, 0, 145, 21, 5, 159, 0, 5, 3, 172, 21, 5, 154, 0, 15, 45, 3, 47]
abbrev dktL_law_40 : List UInt8 := dkwL_law_40 ++ dktL_law_41
def dkwL_law_39 : List UInt8 := [167, 7, 98, 43, 42, 21, 4, 4, 96, 46, 45, 184, 0, 195, 54, 5, 44, 42, 21, 4, 4, 96, 46]
abbrev dktL_law_39 : List UInt8 := dkwL_law_39 ++ dktL_law_40
def dkwL_law_38 : List UInt8 := [21, 5, 159, 0, 5, 3, 172, 21, 5, 154, 0, 15, 45, 3, 47, 21, 6, 133, 148, 153, 0, 5, 3, 172]
abbrev dktL_law_38 : List UInt8 := dkwL_law_38 ++ dktL_law_39
def dkwL_law_37 : List UInt8 := [46, 45, 184, 0, 192, 54, 5, 44, 42, 21, 4, 4, 96, 46, 182, 0, 194, 54, 6, 44, 182, 0, 145]
abbrev dktL_law_37 : List UInt8 := dkwL_law_37 ++ dktL_law_38
def dkwL_law_36 : List UInt8 := [154, 0, 15, 45, 3, 47, 21, 6, 133, 148, 153, 0, 5, 3, 172, 167, 7, 154, 43, 42, 21, 4, 4, 96]
abbrev dktL_law_36 : List UInt8 := dkwL_law_36 ++ dktL_law_37
def dkwL_law_35 : List UInt8 := [21, 4, 4, 96, 46, 182, 0, 191, 54, 6, 44, 182, 0, 145, 21, 5, 159, 0, 5, 3, 172, 21, 5]
abbrev dktL_law_35 : List UInt8 := dkwL_law_35 ++ dktL_law_36
def dkwL_law_34 : List UInt8 := [153, 0, 5, 3, 172, 167, 7, 210, 43, 42, 21, 4, 4, 96, 46, 45, 184, 0, 189, 54, 5, 44, 42]
abbrev dktL_law_34 : List UInt8 := dkwL_law_34 ++ dktL_law_35
def dkwL_law_33 : List UInt8 := [182, 0, 145, 21, 5, 159, 0, 5, 3, 172, 21, 5, 154, 0, 15, 45, 3, 47, 21, 6, 133, 148]
abbrev dktL_law_33 : List UInt8 := dkwL_law_33 ++ dktL_law_34
def dkwL_law_32 : List UInt8 := [184, 0, 186, 54, 5, 44, 42, 21, 4, 4, 96, 46, 42, 21, 4, 5, 96, 46, 182, 0, 188, 54, 6, 44]
abbrev dktL_law_32 : List UInt8 := dkwL_law_32 ++ dktL_law_33
def dkwL_law_31 : List UInt8 := [153, 0, 5, 3, 172, 167, 8, 22, 43, 42, 21, 4, 4, 96, 46, 42, 21, 4, 5, 96, 46, 45]
abbrev dktL_law_31 : List UInt8 := dkwL_law_31 ++ dktL_law_32
def dkwL_law_30 : List UInt8 := [182, 0, 145, 21, 5, 159, 0, 5, 3, 172, 21, 5, 154, 0, 15, 45, 3, 47, 21, 6, 133, 148]
abbrev dktL_law_30 : List UInt8 := dkwL_law_30 ++ dktL_law_31
def dkwL_law_29 : List UInt8 := [184, 0, 183, 54, 5, 44, 42, 21, 4, 4, 96, 46, 42, 21, 4, 5, 96, 46, 182, 0, 185, 54, 6, 44]
abbrev dktL_law_29 : List UInt8 := dkwL_law_29 ++ dktL_law_30
def dkwL_law_28 : List UInt8 := [153, 0, 5, 3, 172, 167, 8, 90, 43, 42, 21, 4, 4, 96, 46, 42, 21, 4, 5, 96, 46, 45]
abbrev dktL_law_28 : List UInt8 := dkwL_law_28 ++ dktL_law_29
def dkwL_law_27 : List UInt8 := [182, 0, 145, 21, 5, 159, 0, 5, 3, 172, 21, 5, 154, 0, 15, 45, 3, 47, 21, 6, 133, 148]
abbrev dktL_law_27 : List UInt8 := dkwL_law_27 ++ dktL_law_28
def dkwL_law_26 : List UInt8 := [21, 4, 4, 96, 46, 45, 184, 0, 180, 54, 5, 44, 42, 21, 4, 4, 96, 46, 182, 0, 182, 54, 6, 44]
abbrev dktL_law_26 : List UInt8 := dkwL_law_26 ++ dktL_law_27
def dkwL_law_25 : List UInt8 := [153, 0, 5, 3, 172, 167, 8, 159, 43, 182, 0, 176, 44, 182, 0, 179, 159, 8, 148, 3, 172, 43, 42]
abbrev dktL_law_25 : List UInt8 := dkwL_law_25 ++ dktL_law_26
def dkwL_law_24 : List UInt8 := [182, 0, 145, 21, 5, 159, 0, 5, 3, 172, 21, 5, 154, 0, 15, 45, 3, 47, 21, 6, 133, 148]
abbrev dktL_law_24 : List UInt8 := dkwL_law_24 ++ dktL_law_25
def dkwL_law_23 : List UInt8 := [184, 0, 172, 54, 5, 44, 42, 21, 4, 4, 96, 46, 42, 21, 4, 5, 96, 46, 182, 0, 175, 54, 6, 44]
abbrev dktL_law_23 : List UInt8 := dkwL_law_23 ++ dktL_law_24
def dkwL_law_22 : List UInt8 := [9, 148, 153, 0, 5, 3, 172, 167, 8, 227, 43, 42, 21, 4, 4, 96, 46, 42, 21, 4, 5, 96, 46, 45]
abbrev dktL_law_22 : List UInt8 := dkwL_law_22 ++ dktL_law_23
def dkwL_law_21 : List UInt8 := [21, 5, 159, 0, 5, 3, 172, 21, 5, 154, 0, 22, 45, 3, 47, 21, 6, 153, 0, 7, 10, 167, 0, 4]
abbrev dktL_law_21 : List UInt8 := dkwL_law_21 ++ dktL_law_22
def dkwL_law_20 : List UInt8 := [96, 46, 45, 184, 0, 169, 54, 5, 44, 42, 21, 4, 4, 96, 46, 182, 0, 171, 54, 6, 44, 182, 0, 145]
abbrev dktL_law_20 : List UInt8 := dkwL_law_20 ++ dktL_law_21
def dkwL_law_19 : List UInt8 := [21, 6, 153, 0, 7, 10, 167, 0, 4, 9, 148, 153, 0, 5, 3, 172, 167, 9, 34, 43, 42, 21, 4, 4]
abbrev dktL_law_19 : List UInt8 := dkwL_law_19 ++ dktL_law_20
def dkwL_law_18 : List UInt8 := [182, 0, 168, 54, 6, 44, 182, 0, 145, 21, 5, 159, 0, 5, 3, 172, 21, 5, 154, 0, 22, 45, 3, 47]
abbrev dktL_law_18 : List UInt8 := dkwL_law_18 ++ dktL_law_19
def dkwL_law_17 : List UInt8 := [167, 9, 97, 43, 42, 21, 4, 4, 96, 46, 45, 184, 0, 166, 54, 5, 44, 42, 21, 4, 4, 96, 46]
abbrev dktL_law_17 : List UInt8 := dkwL_law_17 ++ dktL_law_18
def dkwL_law_16 : List UInt8 := [21, 5, 159, 0, 5, 3, 172, 21, 5, 154, 0, 15, 45, 3, 47, 21, 6, 133, 148, 153, 0, 5, 3, 172]
abbrev dktL_law_16 : List UInt8 := dkwL_law_16 ++ dktL_law_17
def dkwL_law_15 : List UInt8 := [46, 45, 184, 0, 163, 54, 5, 44, 42, 21, 4, 4, 96, 46, 182, 0, 165, 54, 6, 44, 182, 0, 145]
abbrev dktL_law_15 : List UInt8 := dkwL_law_15 ++ dktL_law_16
def dkwL_law_14 : List UInt8 := [154, 0, 15, 45, 3, 47, 21, 6, 133, 148, 153, 0, 5, 3, 172, 167, 9, 153, 43, 42, 21, 4, 4, 96]
abbrev dktL_law_14 : List UInt8 := dkwL_law_14 ++ dktL_law_15
def dkwL_law_13 : List UInt8 := [21, 4, 4, 96, 46, 182, 0, 162, 54, 6, 44, 182, 0, 145, 21, 5, 159, 0, 5, 3, 172, 21, 5]
abbrev dktL_law_13 : List UInt8 := dkwL_law_13 ++ dktL_law_14
def dkwL_law_12 : List UInt8 := [153, 0, 5, 3, 172, 167, 9, 209, 43, 42, 21, 4, 4, 96, 46, 45, 184, 0, 160, 54, 5, 44, 42]
abbrev dktL_law_12 : List UInt8 := dkwL_law_12 ++ dktL_law_13
def dkwL_law_11 : List UInt8 := [182, 0, 145, 21, 5, 159, 0, 5, 3, 172, 21, 5, 154, 0, 15, 45, 3, 47, 21, 6, 133, 148]
abbrev dktL_law_11 : List UInt8 := dkwL_law_11 ++ dktL_law_12
def dkwL_law_10 : List UInt8 := [182, 0, 155, 159, 9, 255, 3, 172, 43, 45, 184, 0, 156, 54, 5, 44, 182, 0, 159, 54, 6, 44]
abbrev dktL_law_10 : List UInt8 := dkwL_law_10 ++ dktL_law_11
def dkwL_law_9 : List UInt8 := [154, 0, 15, 45, 3, 47, 21, 6, 133, 148, 153, 0, 5, 3, 172, 167, 10, 10, 43, 182, 0, 152, 44]
abbrev dktL_law_9 : List UInt8 := dkwL_law_9 ++ dktL_law_10
def dkwL_law_8 : List UInt8 := [21, 4, 4, 96, 46, 182, 0, 151, 54, 6, 44, 182, 0, 145, 21, 5, 159, 0, 5, 3, 172, 21, 5]
abbrev dktL_law_8 : List UInt8 := dkwL_law_8 ++ dktL_law_9
def dkwL_law_7 : List UInt8 := [148, 153, 0, 5, 3, 172, 167, 10, 66, 43, 42, 21, 4, 4, 96, 46, 45, 184, 0, 148, 54, 5, 44, 42]
abbrev dktL_law_7 : List UInt8 := dkwL_law_7 ++ dktL_law_8
def dkwL_law_6 : List UInt8 := [54, 6, 44, 182, 0, 145, 21, 5, 159, 0, 5, 3, 172, 21, 5, 154, 0, 15, 45, 3, 47, 21, 6, 133]
abbrev dktL_law_6 : List UInt8 := dkwL_law_6 ++ dktL_law_7
def dkwL_law_5 : List UInt8 := [96, 46, 42, 21, 4, 6, 96, 46, 42, 21, 4, 7, 96, 46, 42, 21, 4, 8, 96, 46, 182, 0, 144]
abbrev dktL_law_5 : List UInt8 := dkwL_law_5 ++ dktL_law_6
def dkwL_law_4 : List UInt8 := [46, 42, 21, 4, 8, 96, 46, 45, 184, 0, 139, 54, 5, 44, 42, 21, 4, 4, 96, 46, 42, 21, 4, 5]
abbrev dktL_law_4 : List UInt8 := dkwL_law_4 ++ dktL_law_5
def dkwL_law_3 : List UInt8 := [43, 42, 21, 4, 4, 96, 46, 42, 21, 4, 5, 96, 46, 42, 21, 4, 6, 96, 46, 42, 21, 4, 7, 96]
abbrev dktL_law_3 : List UInt8 := dkwL_law_3 ++ dktL_law_4
def dkwL_law_2 : List UInt8 := [170, 0, 0, 0, 0, 0, 11, 183, 0, 0, 0, 0, 0, 0, 0, 63, 0, 0, 1, 16, 0, 0, 1, 120, 0, 0, 1, 176, 0, 0, 1, 189, 0, 0, 1, 233, 0, 0, 2, 33, 0, 0, 2, 89, 0, 0, 2, 152, 0, 0, 2, 215, 0, 0, 3, 27, 0, 0, 3, 40, 0, 0, 3, 96, 0, 0, 3, 164, 0, 0, 3, 232, 0, 0, 4, 32, 0, 0, 4, 88, 0, 0, 4, 144, 0, 0, 4, 188, 0, 0, 4, 201, 0, 0, 5, 13, 0, 0, 5, 81, 0, 0, 5, 125, 0, 0, 5, 169, 0, 0, 5, 182, 0, 0, 5, 195, 0, 0, 5, 208, 0, 0, 6, 15, 0, 0, 6, 71, 0, 0, 6, 127, 0, 0, 6, 183, 0, 0, 6, 246, 0, 0, 7, 46, 0, 0, 7, 59, 0, 0, 7, 72, 0, 0, 7, 85, 0, 0, 7, 98, 0, 0, 7, 111, 0, 0, 7, 136, 0, 0, 7, 149, 0, 0, 7, 162, 0, 0, 7, 175, 0, 0, 7, 216, 0, 0, 8, 3, 0, 0, 8, 16, 0, 0, 8, 29, 0, 0, 8, 85, 0, 0, 8, 141, 0, 0, 8, 154, 0, 0, 8, 167, 0, 0, 8, 180, 0, 0, 8, 193, 0, 0, 8, 206, 0, 0, 8, 219, 0, 0, 9, 38, 0, 0, 9, 106, 0, 0, 9, 174, 0, 0, 9, 242, 0, 0, 10, 54, 0, 0, 10, 122, 0, 0, 10, 190, 0, 0, 10, 246, 0, 0, 11, 58, 0, 0, 11, 114, 0, 0, 11, 127]
abbrev dktL_law_2 : List UInt8 := dkwL_law_2 ++ dktL_law_3
def dkwL_law_1 : List UInt8 := [21, 4, 42, 190, 16, 6, 100, 163, 11, 199, 42, 21, 4, 46, 16, 63, 126]
abbrev dktL_law_1 : List UInt8 := dkwL_law_1 ++ dktL_law_2
def dkwL_law_0 : List UInt8 := [187, 0, 8, 89, 183, 0, 135, 76, 187, 0, 136, 89, 183, 0, 138, 77, 4, 188, 11, 78, 3, 54, 4]
abbrev dktL_law_0 : List UInt8 := dkwL_law_0 ++ dktL_law_1
theorem dksL_law_0 : cL_law.data.toList.drop 0 = dktL_law_0 := by decide +kernel
theorem dksL_law_1 : cL_law.data.toList.drop 23 = dktL_law_1 := dk_seg dksL_law_0 23 rfl rfl
theorem dksL_law_2 : cL_law.data.toList.drop 40 = dktL_law_2 := dk_seg dksL_law_1 17 rfl rfl
theorem dksL_law_3 : cL_law.data.toList.drop 312 = dktL_law_3 := dk_seg dksL_law_2 272 rfl rfl
theorem dksL_law_4 : cL_law.data.toList.drop 336 = dktL_law_4 := dk_seg dksL_law_3 24 rfl rfl
theorem dksL_law_5 : cL_law.data.toList.drop 360 = dktL_law_5 := dk_seg dksL_law_4 24 rfl rfl
theorem dksL_law_6 : cL_law.data.toList.drop 383 = dktL_law_6 := dk_seg dksL_law_5 23 rfl rfl
theorem dksL_law_7 : cL_law.data.toList.drop 407 = dktL_law_7 := dk_seg dksL_law_6 24 rfl rfl
theorem dksL_law_8 : cL_law.data.toList.drop 431 = dktL_law_8 := dk_seg dksL_law_7 24 rfl rfl
theorem dksL_law_9 : cL_law.data.toList.drop 454 = dktL_law_9 := dk_seg dksL_law_8 23 rfl rfl
theorem dksL_law_10 : cL_law.data.toList.drop 477 = dktL_law_10 := dk_seg dksL_law_9 23 rfl rfl
theorem dksL_law_11 : cL_law.data.toList.drop 499 = dktL_law_11 := dk_seg dksL_law_10 22 rfl rfl
theorem dksL_law_12 : cL_law.data.toList.drop 521 = dktL_law_12 := dk_seg dksL_law_11 22 rfl rfl
theorem dksL_law_13 : cL_law.data.toList.drop 544 = dktL_law_13 := dk_seg dksL_law_12 23 rfl rfl
theorem dksL_law_14 : cL_law.data.toList.drop 567 = dktL_law_14 := dk_seg dksL_law_13 23 rfl rfl
theorem dksL_law_15 : cL_law.data.toList.drop 591 = dktL_law_15 := dk_seg dksL_law_14 24 rfl rfl
theorem dksL_law_16 : cL_law.data.toList.drop 614 = dktL_law_16 := dk_seg dksL_law_15 23 rfl rfl
theorem dksL_law_17 : cL_law.data.toList.drop 638 = dktL_law_17 := dk_seg dksL_law_16 24 rfl rfl
theorem dksL_law_18 : cL_law.data.toList.drop 661 = dktL_law_18 := dk_seg dksL_law_17 23 rfl rfl
theorem dksL_law_19 : cL_law.data.toList.drop 685 = dktL_law_19 := dk_seg dksL_law_18 24 rfl rfl
theorem dksL_law_20 : cL_law.data.toList.drop 709 = dktL_law_20 := dk_seg dksL_law_19 24 rfl rfl
theorem dksL_law_21 : cL_law.data.toList.drop 733 = dktL_law_21 := dk_seg dksL_law_20 24 rfl rfl
theorem dksL_law_22 : cL_law.data.toList.drop 757 = dktL_law_22 := dk_seg dksL_law_21 24 rfl rfl
theorem dksL_law_23 : cL_law.data.toList.drop 781 = dktL_law_23 := dk_seg dksL_law_22 24 rfl rfl
theorem dksL_law_24 : cL_law.data.toList.drop 805 = dktL_law_24 := dk_seg dksL_law_23 24 rfl rfl
theorem dksL_law_25 : cL_law.data.toList.drop 827 = dktL_law_25 := dk_seg dksL_law_24 22 rfl rfl
theorem dksL_law_26 : cL_law.data.toList.drop 850 = dktL_law_26 := dk_seg dksL_law_25 23 rfl rfl
theorem dksL_law_27 : cL_law.data.toList.drop 874 = dktL_law_27 := dk_seg dksL_law_26 24 rfl rfl
theorem dksL_law_28 : cL_law.data.toList.drop 896 = dktL_law_28 := dk_seg dksL_law_27 22 rfl rfl
theorem dksL_law_29 : cL_law.data.toList.drop 918 = dktL_law_29 := dk_seg dksL_law_28 22 rfl rfl
theorem dksL_law_30 : cL_law.data.toList.drop 942 = dktL_law_30 := dk_seg dksL_law_29 24 rfl rfl
theorem dksL_law_31 : cL_law.data.toList.drop 964 = dktL_law_31 := dk_seg dksL_law_30 22 rfl rfl
theorem dksL_law_32 : cL_law.data.toList.drop 986 = dktL_law_32 := dk_seg dksL_law_31 22 rfl rfl
theorem dksL_law_33 : cL_law.data.toList.drop 1010 = dktL_law_33 := dk_seg dksL_law_32 24 rfl rfl
theorem dksL_law_34 : cL_law.data.toList.drop 1032 = dktL_law_34 := dk_seg dksL_law_33 22 rfl rfl
theorem dksL_law_35 : cL_law.data.toList.drop 1055 = dktL_law_35 := dk_seg dksL_law_34 23 rfl rfl
theorem dksL_law_36 : cL_law.data.toList.drop 1078 = dktL_law_36 := dk_seg dksL_law_35 23 rfl rfl
theorem dksL_law_37 : cL_law.data.toList.drop 1102 = dktL_law_37 := dk_seg dksL_law_36 24 rfl rfl
theorem dksL_law_38 : cL_law.data.toList.drop 1125 = dktL_law_38 := dk_seg dksL_law_37 23 rfl rfl
theorem dksL_law_39 : cL_law.data.toList.drop 1149 = dktL_law_39 := dk_seg dksL_law_38 24 rfl rfl
theorem dksL_law_40 : cL_law.data.toList.drop 1172 = dktL_law_40 := dk_seg dksL_law_39 23 rfl rfl
theorem dksL_law_41 : cL_law.data.toList.drop 1196 = dktL_law_41 := dk_seg dksL_law_40 24 rfl rfl
theorem dksL_law_42 : cL_law.data.toList.drop 1219 = dktL_law_42 := dk_seg dksL_law_41 23 rfl rfl
theorem dksL_law_43 : cL_law.data.toList.drop 1243 = dktL_law_43 := dk_seg dksL_law_42 24 rfl rfl
theorem dksL_law_44 : cL_law.data.toList.drop 1267 = dktL_law_44 := dk_seg dksL_law_43 24 rfl rfl
theorem dksL_law_45 : cL_law.data.toList.drop 1291 = dktL_law_45 := dk_seg dksL_law_44 24 rfl rfl
theorem dksL_law_46 : cL_law.data.toList.drop 1315 = dktL_law_46 := dk_seg dksL_law_45 24 rfl rfl
theorem dksL_law_47 : cL_law.data.toList.drop 1339 = dktL_law_47 := dk_seg dksL_law_46 24 rfl rfl
theorem dksL_law_48 : cL_law.data.toList.drop 1363 = dktL_law_48 := dk_seg dksL_law_47 24 rfl rfl
theorem dksL_law_49 : cL_law.data.toList.drop 1387 = dktL_law_49 := dk_seg dksL_law_48 24 rfl rfl
theorem dksL_law_50 : cL_law.data.toList.drop 1409 = dktL_law_50 := dk_seg dksL_law_49 22 rfl rfl
theorem dksL_law_51 : cL_law.data.toList.drop 1433 = dktL_law_51 := dk_seg dksL_law_50 24 rfl rfl
theorem dksL_law_52 : cL_law.data.toList.drop 1456 = dktL_law_52 := dk_seg dksL_law_51 23 rfl rfl
theorem dksL_law_53 : cL_law.data.toList.drop 1480 = dktL_law_53 := dk_seg dksL_law_52 24 rfl rfl
theorem dksL_law_54 : cL_law.data.toList.drop 1503 = dktL_law_54 := dk_seg dksL_law_53 23 rfl rfl
theorem dksL_law_55 : cL_law.data.toList.drop 1527 = dktL_law_55 := dk_seg dksL_law_54 24 rfl rfl
theorem dksL_law_56 : cL_law.data.toList.drop 1551 = dktL_law_56 := dk_seg dksL_law_55 24 rfl rfl
theorem dksL_law_57 : cL_law.data.toList.drop 1574 = dktL_law_57 := dk_seg dksL_law_56 23 rfl rfl
theorem dksL_law_58 : cL_law.data.toList.drop 1598 = dktL_law_58 := dk_seg dksL_law_57 24 rfl rfl
theorem dksL_law_59 : cL_law.data.toList.drop 1622 = dktL_law_59 := dk_seg dksL_law_58 24 rfl rfl
theorem dksL_law_60 : cL_law.data.toList.drop 1644 = dktL_law_60 := dk_seg dksL_law_59 22 rfl rfl
theorem dksL_law_61 : cL_law.data.toList.drop 1667 = dktL_law_61 := dk_seg dksL_law_60 23 rfl rfl
theorem dksL_law_62 : cL_law.data.toList.drop 1691 = dktL_law_62 := dk_seg dksL_law_61 24 rfl rfl
theorem dksL_law_63 : cL_law.data.toList.drop 1714 = dktL_law_63 := dk_seg dksL_law_62 23 rfl rfl
theorem dksL_law_64 : cL_law.data.toList.drop 1738 = dktL_law_64 := dk_seg dksL_law_63 24 rfl rfl
theorem dksL_law_65 : cL_law.data.toList.drop 1761 = dktL_law_65 := dk_seg dksL_law_64 23 rfl rfl
theorem dksL_law_66 : cL_law.data.toList.drop 1785 = dktL_law_66 := dk_seg dksL_law_65 24 rfl rfl
theorem dksL_law_67 : cL_law.data.toList.drop 1809 = dktL_law_67 := dk_seg dksL_law_66 24 rfl rfl
theorem dksL_law_68 : cL_law.data.toList.drop 1833 = dktL_law_68 := dk_seg dksL_law_67 24 rfl rfl
theorem dksL_law_69 : cL_law.data.toList.drop 1857 = dktL_law_69 := dk_seg dksL_law_68 24 rfl rfl
theorem dksL_law_70 : cL_law.data.toList.drop 1879 = dktL_law_70 := dk_seg dksL_law_69 22 rfl rfl
theorem dksL_law_71 : cL_law.data.toList.drop 1903 = dktL_law_71 := dk_seg dksL_law_70 24 rfl rfl
theorem dksL_law_72 : cL_law.data.toList.drop 1925 = dktL_law_72 := dk_seg dksL_law_71 22 rfl rfl
theorem dksL_law_73 : cL_law.data.toList.drop 1949 = dktL_law_73 := dk_seg dksL_law_72 24 rfl rfl
theorem dksL_law_74 : cL_law.data.toList.drop 1973 = dktL_law_74 := dk_seg dksL_law_73 24 rfl rfl
theorem dksL_law_75 : cL_law.data.toList.drop 1995 = dktL_law_75 := dk_seg dksL_law_74 22 rfl rfl
theorem dksL_law_76 : cL_law.data.toList.drop 2019 = dktL_law_76 := dk_seg dksL_law_75 24 rfl rfl
theorem dksL_law_77 : cL_law.data.toList.drop 2043 = dktL_law_77 := dk_seg dksL_law_76 24 rfl rfl
theorem dksL_law_78 : cL_law.data.toList.drop 2067 = dktL_law_78 := dk_seg dksL_law_77 24 rfl rfl
theorem dksL_law_79 : cL_law.data.toList.drop 2091 = dktL_law_79 := dk_seg dksL_law_78 24 rfl rfl
theorem dksL_law_80 : cL_law.data.toList.drop 2115 = dktL_law_80 := dk_seg dksL_law_79 24 rfl rfl
theorem dksL_law_81 : cL_law.data.toList.drop 2137 = dktL_law_81 := dk_seg dksL_law_80 22 rfl rfl
theorem dksL_law_82 : cL_law.data.toList.drop 2161 = dktL_law_82 := dk_seg dksL_law_81 24 rfl rfl
theorem dksL_law_83 : cL_law.data.toList.drop 2184 = dktL_law_83 := dk_seg dksL_law_82 23 rfl rfl
theorem dksL_law_84 : cL_law.data.toList.drop 2208 = dktL_law_84 := dk_seg dksL_law_83 24 rfl rfl
theorem dksL_law_85 : cL_law.data.toList.drop 2230 = dktL_law_85 := dk_seg dksL_law_84 22 rfl rfl
theorem dksL_law_86 : cL_law.data.toList.drop 2254 = dktL_law_86 := dk_seg dksL_law_85 24 rfl rfl
theorem dksL_law_87 : cL_law.data.toList.drop 2276 = dktL_law_87 := dk_seg dksL_law_86 22 rfl rfl
theorem dksL_law_88 : cL_law.data.toList.drop 2299 = dktL_law_88 := dk_seg dksL_law_87 23 rfl rfl
theorem dksL_law_89 : cL_law.data.toList.drop 2321 = dktL_law_89 := dk_seg dksL_law_88 22 rfl rfl
theorem dksL_law_90 : cL_law.data.toList.drop 2345 = dktL_law_90 := dk_seg dksL_law_89 24 rfl rfl
theorem dksL_law_91 : cL_law.data.toList.drop 2369 = dktL_law_91 := dk_seg dksL_law_90 24 rfl rfl
theorem dksL_law_92 : cL_law.data.toList.drop 2393 = dktL_law_92 := dk_seg dksL_law_91 24 rfl rfl
theorem dksL_law_93 : cL_law.data.toList.drop 2417 = dktL_law_93 := dk_seg dksL_law_92 24 rfl rfl
theorem dksL_law_94 : cL_law.data.toList.drop 2441 = dktL_law_94 := dk_seg dksL_law_93 24 rfl rfl
theorem dksL_law_95 : cL_law.data.toList.drop 2464 = dktL_law_95 := dk_seg dksL_law_94 23 rfl rfl
theorem dksL_law_96 : cL_law.data.toList.drop 2488 = dktL_law_96 := dk_seg dksL_law_95 24 rfl rfl
theorem dksL_law_97 : cL_law.data.toList.drop 2510 = dktL_law_97 := dk_seg dksL_law_96 22 rfl rfl
theorem dksL_law_98 : cL_law.data.toList.drop 2532 = dktL_law_98 := dk_seg dksL_law_97 22 rfl rfl
theorem dksL_law_99 : cL_law.data.toList.drop 2556 = dktL_law_99 := dk_seg dksL_law_98 24 rfl rfl
theorem dksL_law_100 : cL_law.data.toList.drop 2578 = dktL_law_100 := dk_seg dksL_law_99 22 rfl rfl
theorem dksL_law_101 : cL_law.data.toList.drop 2600 = dktL_law_101 := dk_seg dksL_law_100 22 rfl rfl
theorem dksL_law_102 : cL_law.data.toList.drop 2624 = dktL_law_102 := dk_seg dksL_law_101 24 rfl rfl
theorem dksL_law_103 : cL_law.data.toList.drop 2646 = dktL_law_103 := dk_seg dksL_law_102 22 rfl rfl
theorem dksL_law_104 : cL_law.data.toList.drop 2668 = dktL_law_104 := dk_seg dksL_law_103 22 rfl rfl
theorem dksL_law_105 : cL_law.data.toList.drop 2692 = dktL_law_105 := dk_seg dksL_law_104 24 rfl rfl
theorem dksL_law_106 : cL_law.data.toList.drop 2714 = dktL_law_106 := dk_seg dksL_law_105 22 rfl rfl
theorem dksL_law_107 : cL_law.data.toList.drop 2736 = dktL_law_107 := dk_seg dksL_law_106 22 rfl rfl
theorem dksL_law_108 : cL_law.data.toList.drop 2760 = dktL_law_108 := dk_seg dksL_law_107 24 rfl rfl
theorem dksL_law_109 : cL_law.data.toList.drop 2782 = dktL_law_109 := dk_seg dksL_law_108 22 rfl rfl
theorem dksL_law_110 : cL_law.data.toList.drop 2805 = dktL_law_110 := dk_seg dksL_law_109 23 rfl rfl
theorem dksL_law_111 : cL_law.data.toList.drop 2828 = dktL_law_111 := dk_seg dksL_law_110 23 rfl rfl
theorem dksL_law_112 : cL_law.data.toList.drop 2852 = dktL_law_112 := dk_seg dksL_law_111 24 rfl rfl
theorem dksL_law_113 : cL_law.data.toList.drop 2876 = dktL_law_113 := dk_seg dksL_law_112 24 rfl rfl
theorem dksL_law_114 : cL_law.data.toList.drop 2900 = dktL_law_114 := dk_seg dksL_law_113 24 rfl rfl
theorem dksL_law_115 : cL_law.data.toList.drop 2922 = dktL_law_115 := dk_seg dksL_law_114 22 rfl rfl
theorem dksL_law_116 : cL_law.data.toList.drop 2945 = dktL_law_116 := dk_seg dksL_law_115 23 rfl rfl
theorem dksL_law_117 : cL_law.data.toList.drop 2967 = dktL_law_117 := dk_seg dksL_law_116 22 rfl rfl
theorem dksL_law_118 : cL_law.data.toList.drop 2991 = dktL_law_118 := dk_seg dksL_law_117 24 rfl rfl
theorem dksL_law_119 : cL_law.data.toList.drop 3014 = dktL_law_119 := dk_seg dksL_law_118 23 rfl rfl
theorem dksL_law_120 : cL_law.data.toList.drop 3036 = dktL_law_120 := dk_seg dksL_law_119 22 rfl rfl
theorem dL_law_0 : decode cL_law 0 = .ok (.new 8, 3) := dk_187 0 8 (dk_at dksL_law_0 0 rfl rfl)
theorem dL_law_3 : decode cL_law 3 = .ok (.dup, 1) := dk_89 (dk_at dksL_law_0 3 rfl rfl)
theorem dL_law_4 : decode cL_law 4 = .ok (.invokespecial 135, 3) := dk_183 0 135 (dk_at dksL_law_0 4 rfl rfl)
theorem dL_law_7 : decode cL_law 7 = .ok (.astore_n 1, 1) := dk_76 (dk_at dksL_law_0 7 rfl rfl)
theorem dL_law_8 : decode cL_law 8 = .ok (.new 136, 3) := dk_187 0 136 (dk_at dksL_law_0 8 rfl rfl)
theorem dL_law_11 : decode cL_law 11 = .ok (.dup, 1) := dk_89 (dk_at dksL_law_0 11 rfl rfl)
theorem dL_law_12 : decode cL_law 12 = .ok (.invokespecial 138, 3) := dk_183 0 138 (dk_at dksL_law_0 12 rfl rfl)
theorem dL_law_15 : decode cL_law 15 = .ok (.astore_n 2, 1) := dk_77 (dk_at dksL_law_0 15 rfl rfl)
theorem dL_law_16 : decode cL_law 16 = .ok (.iconst 1, 1) := dk_4 (dk_at dksL_law_0 16 rfl rfl)
theorem dL_law_17 : decode cL_law 17 = .ok (.newarray .long, 2) := dk_188_11 (dk_at dksL_law_0 17 rfl rfl)
theorem dL_law_19 : decode cL_law 19 = .ok (.astore_n 3, 1) := dk_78 (dk_at dksL_law_0 19 rfl rfl)
theorem dL_law_20 : decode cL_law 20 = .ok (.iconst 0, 1) := dk_3 (dk_at dksL_law_0 20 rfl rfl)
theorem dL_law_21 : decode cL_law 21 = .ok (.istore 4, 2) := dk_54 4 (dk_at dksL_law_0 21 rfl rfl)
theorem dL_law_23 : decode cL_law 23 = .ok (.iload 4, 2) := dk_21 4 (dk_at dksL_law_1 0 rfl rfl)
theorem dL_law_25 : decode cL_law 25 = .ok (.aload_n 0, 1) := dk_42 (dk_at dksL_law_1 2 rfl rfl)
theorem dL_law_26 : decode cL_law 26 = .ok (.arraylength, 1) := dk_190 (dk_at dksL_law_1 3 rfl rfl)
theorem dL_law_27 : decode cL_law 27 = .ok (.bipush 6, 2) := dk_16 6 (dk_at dksL_law_1 4 rfl rfl)
theorem dL_law_29 : decode cL_law 29 = .ok (.isub, 1) := dk_100 (dk_at dksL_law_1 6 rfl rfl)
theorem dL_law_30 : decode cL_law 30 = .ok (.if_icmp .gt 3015, 3) := dk_163 11 199 (dk_at dksL_law_1 7 rfl rfl)
theorem dL_law_33 : decode cL_law 33 = .ok (.aload_n 0, 1) := dk_42 (dk_at dksL_law_1 10 rfl rfl)
theorem dL_law_34 : decode cL_law 34 = .ok (.iload 4, 2) := dk_21 4 (dk_at dksL_law_1 11 rfl rfl)
theorem dL_law_36 : decode cL_law 36 = .ok (.iaload, 1) := dk_46 (dk_at dksL_law_1 13 rfl rfl)
theorem dL_law_37 : decode cL_law 37 = .ok (.bipush 63, 2) := dk_16 63 (dk_at dksL_law_1 14 rfl rfl)
theorem dL_law_39 : decode cL_law 39 = .ok (.iand, 1) := dk_126 (dk_at dksL_law_1 16 rfl rfl)
theorem dL_law_40 : decode cL_law 40 = .ok (.tableswitch 2999 0 63 #[272, 376, 432, 445, 489, 545, 601, 664, 727, 795, 808, 864, 932, 1000, 1056, 1112, 1168, 1212, 1225, 1293, 1361, 1405, 1449, 1462, 1475, 1488, 1551, 1607, 1663, 1719, 1782, 1838, 1851, 1864, 1877, 1890, 1903, 1928, 1941, 1954, 1967, 2008, 2051, 2064, 2077, 2133, 2189, 2202, 2215, 2228, 2241, 2254, 2267, 2342, 2410, 2478, 2546, 2614, 2682, 2750, 2806, 2874, 2930, 2943], 272) := by decide +kernel
theorem dL_law_312 : decode cL_law 312 = .ok (.aload_n 1, 1) := dk_43 (dk_at dksL_law_3 0 rfl rfl)
theorem dL_law_313 : decode cL_law 313 = .ok (.aload_n 0, 1) := dk_42 (dk_at dksL_law_3 1 rfl rfl)
theorem dL_law_314 : decode cL_law 314 = .ok (.iload 4, 2) := dk_21 4 (dk_at dksL_law_3 2 rfl rfl)
theorem dL_law_316 : decode cL_law 316 = .ok (.iconst 1, 1) := dk_4 (dk_at dksL_law_3 4 rfl rfl)
theorem dL_law_317 : decode cL_law 317 = .ok (.iadd, 1) := dk_96 (dk_at dksL_law_3 5 rfl rfl)
theorem dL_law_318 : decode cL_law 318 = .ok (.iaload, 1) := dk_46 (dk_at dksL_law_3 6 rfl rfl)
theorem dL_law_319 : decode cL_law 319 = .ok (.aload_n 0, 1) := dk_42 (dk_at dksL_law_3 7 rfl rfl)
theorem dL_law_320 : decode cL_law 320 = .ok (.iload 4, 2) := dk_21 4 (dk_at dksL_law_3 8 rfl rfl)
theorem dL_law_322 : decode cL_law 322 = .ok (.iconst 2, 1) := dk_5 (dk_at dksL_law_3 10 rfl rfl)
theorem dL_law_323 : decode cL_law 323 = .ok (.iadd, 1) := dk_96 (dk_at dksL_law_3 11 rfl rfl)
theorem dL_law_324 : decode cL_law 324 = .ok (.iaload, 1) := dk_46 (dk_at dksL_law_3 12 rfl rfl)
theorem dL_law_325 : decode cL_law 325 = .ok (.aload_n 0, 1) := dk_42 (dk_at dksL_law_3 13 rfl rfl)
theorem dL_law_326 : decode cL_law 326 = .ok (.iload 4, 2) := dk_21 4 (dk_at dksL_law_3 14 rfl rfl)
theorem dL_law_328 : decode cL_law 328 = .ok (.iconst 3, 1) := dk_6 (dk_at dksL_law_3 16 rfl rfl)
theorem dL_law_329 : decode cL_law 329 = .ok (.iadd, 1) := dk_96 (dk_at dksL_law_3 17 rfl rfl)
theorem dL_law_330 : decode cL_law 330 = .ok (.iaload, 1) := dk_46 (dk_at dksL_law_3 18 rfl rfl)
theorem dL_law_331 : decode cL_law 331 = .ok (.aload_n 0, 1) := dk_42 (dk_at dksL_law_3 19 rfl rfl)
theorem dL_law_332 : decode cL_law 332 = .ok (.iload 4, 2) := dk_21 4 (dk_at dksL_law_3 20 rfl rfl)
theorem dL_law_334 : decode cL_law 334 = .ok (.iconst 4, 1) := dk_7 (dk_at dksL_law_3 22 rfl rfl)
theorem dL_law_335 : decode cL_law 335 = .ok (.iadd, 1) := dk_96 (dk_at dksL_law_3 23 rfl rfl)
theorem dL_law_336 : decode cL_law 336 = .ok (.iaload, 1) := dk_46 (dk_at dksL_law_4 0 rfl rfl)
theorem dL_law_337 : decode cL_law 337 = .ok (.aload_n 0, 1) := dk_42 (dk_at dksL_law_4 1 rfl rfl)
theorem dL_law_338 : decode cL_law 338 = .ok (.iload 4, 2) := dk_21 4 (dk_at dksL_law_4 2 rfl rfl)
theorem dL_law_340 : decode cL_law 340 = .ok (.iconst 5, 1) := dk_8 (dk_at dksL_law_4 4 rfl rfl)
theorem dL_law_341 : decode cL_law 341 = .ok (.iadd, 1) := dk_96 (dk_at dksL_law_4 5 rfl rfl)
theorem dL_law_342 : decode cL_law 342 = .ok (.iaload, 1) := dk_46 (dk_at dksL_law_4 6 rfl rfl)
theorem dL_law_343 : decode cL_law 343 = .ok (.aload_n 3, 1) := dk_45 (dk_at dksL_law_4 7 rfl rfl)
theorem dL_law_344 : decode cL_law 344 = .ok (.invokestatic 139, 3) := dk_184 0 139 (dk_at dksL_law_4 8 rfl rfl)
theorem dL_law_347 : decode cL_law 347 = .ok (.istore 5, 2) := dk_54 5 (dk_at dksL_law_4 11 rfl rfl)
theorem dL_law_349 : decode cL_law 349 = .ok (.aload_n 2, 1) := dk_44 (dk_at dksL_law_4 13 rfl rfl)
theorem dL_law_350 : decode cL_law 350 = .ok (.aload_n 0, 1) := dk_42 (dk_at dksL_law_4 14 rfl rfl)
theorem dL_law_351 : decode cL_law 351 = .ok (.iload 4, 2) := dk_21 4 (dk_at dksL_law_4 15 rfl rfl)
theorem dL_law_353 : decode cL_law 353 = .ok (.iconst 1, 1) := dk_4 (dk_at dksL_law_4 17 rfl rfl)
theorem dL_law_354 : decode cL_law 354 = .ok (.iadd, 1) := dk_96 (dk_at dksL_law_4 18 rfl rfl)
theorem dL_law_355 : decode cL_law 355 = .ok (.iaload, 1) := dk_46 (dk_at dksL_law_4 19 rfl rfl)
theorem dL_law_356 : decode cL_law 356 = .ok (.aload_n 0, 1) := dk_42 (dk_at dksL_law_4 20 rfl rfl)
theorem dL_law_357 : decode cL_law 357 = .ok (.iload 4, 2) := dk_21 4 (dk_at dksL_law_4 21 rfl rfl)
theorem dL_law_359 : decode cL_law 359 = .ok (.iconst 2, 1) := dk_5 (dk_at dksL_law_4 23 rfl rfl)
theorem dL_law_360 : decode cL_law 360 = .ok (.iadd, 1) := dk_96 (dk_at dksL_law_5 0 rfl rfl)
theorem dL_law_361 : decode cL_law 361 = .ok (.iaload, 1) := dk_46 (dk_at dksL_law_5 1 rfl rfl)
theorem dL_law_362 : decode cL_law 362 = .ok (.aload_n 0, 1) := dk_42 (dk_at dksL_law_5 2 rfl rfl)
theorem dL_law_363 : decode cL_law 363 = .ok (.iload 4, 2) := dk_21 4 (dk_at dksL_law_5 3 rfl rfl)
theorem dL_law_365 : decode cL_law 365 = .ok (.iconst 3, 1) := dk_6 (dk_at dksL_law_5 5 rfl rfl)
theorem dL_law_366 : decode cL_law 366 = .ok (.iadd, 1) := dk_96 (dk_at dksL_law_5 6 rfl rfl)
theorem dL_law_367 : decode cL_law 367 = .ok (.iaload, 1) := dk_46 (dk_at dksL_law_5 7 rfl rfl)
theorem dL_law_368 : decode cL_law 368 = .ok (.aload_n 0, 1) := dk_42 (dk_at dksL_law_5 8 rfl rfl)
theorem dL_law_369 : decode cL_law 369 = .ok (.iload 4, 2) := dk_21 4 (dk_at dksL_law_5 9 rfl rfl)
theorem dL_law_371 : decode cL_law 371 = .ok (.iconst 4, 1) := dk_7 (dk_at dksL_law_5 11 rfl rfl)
theorem dL_law_372 : decode cL_law 372 = .ok (.iadd, 1) := dk_96 (dk_at dksL_law_5 12 rfl rfl)
theorem dL_law_373 : decode cL_law 373 = .ok (.iaload, 1) := dk_46 (dk_at dksL_law_5 13 rfl rfl)
theorem dL_law_374 : decode cL_law 374 = .ok (.aload_n 0, 1) := dk_42 (dk_at dksL_law_5 14 rfl rfl)
theorem dL_law_375 : decode cL_law 375 = .ok (.iload 4, 2) := dk_21 4 (dk_at dksL_law_5 15 rfl rfl)
theorem dL_law_377 : decode cL_law 377 = .ok (.iconst 5, 1) := dk_8 (dk_at dksL_law_5 17 rfl rfl)
theorem dL_law_378 : decode cL_law 378 = .ok (.iadd, 1) := dk_96 (dk_at dksL_law_5 18 rfl rfl)
theorem dL_law_379 : decode cL_law 379 = .ok (.iaload, 1) := dk_46 (dk_at dksL_law_5 19 rfl rfl)
theorem dL_law_380 : decode cL_law 380 = .ok (.invokevirtual 144, 3) := dk_182 0 144 (dk_at dksL_law_5 20 rfl rfl)
theorem dL_law_383 : decode cL_law 383 = .ok (.istore 6, 2) := dk_54 6 (dk_at dksL_law_6 0 rfl rfl)
theorem dL_law_385 : decode cL_law 385 = .ok (.aload_n 2, 1) := dk_44 (dk_at dksL_law_6 2 rfl rfl)
theorem dL_law_386 : decode cL_law 386 = .ok (.invokevirtual 145, 3) := dk_182 0 145 (dk_at dksL_law_6 3 rfl rfl)
theorem dL_law_389 : decode cL_law 389 = .ok (.iload 5, 2) := dk_21 5 (dk_at dksL_law_6 6 rfl rfl)
theorem dL_law_391 : decode cL_law 391 = .ok (.if_icmp .eq 5, 3) := dk_159 0 5 (dk_at dksL_law_6 8 rfl rfl)
theorem dL_law_394 : decode cL_law 394 = .ok (.iconst 0, 1) := dk_3 (dk_at dksL_law_6 11 rfl rfl)
theorem dL_law_395 : decode cL_law 395 = .ok (.ireturn, 1) := dk_172 (dk_at dksL_law_6 12 rfl rfl)
theorem dL_law_396 : decode cL_law 396 = .ok (.iload 5, 2) := dk_21 5 (dk_at dksL_law_6 13 rfl rfl)
theorem dL_law_398 : decode cL_law 398 = .ok (.ifCond .ne 15, 3) := dk_154 0 15 (dk_at dksL_law_6 15 rfl rfl)
theorem dL_law_401 : decode cL_law 401 = .ok (.aload_n 3, 1) := dk_45 (dk_at dksL_law_6 18 rfl rfl)
theorem dL_law_402 : decode cL_law 402 = .ok (.iconst 0, 1) := dk_3 (dk_at dksL_law_6 19 rfl rfl)
theorem dL_law_403 : decode cL_law 403 = .ok (.laload, 1) := dk_47 (dk_at dksL_law_6 20 rfl rfl)
theorem dL_law_404 : decode cL_law 404 = .ok (.iload 6, 2) := dk_21 6 (dk_at dksL_law_6 21 rfl rfl)
theorem dL_law_406 : decode cL_law 406 = .ok (.i2l, 1) := dk_133 (dk_at dksL_law_6 23 rfl rfl)
theorem dL_law_407 : decode cL_law 407 = .ok (.lcmp, 1) := dk_148 (dk_at dksL_law_7 0 rfl rfl)
theorem dL_law_408 : decode cL_law 408 = .ok (.ifCond .eq 5, 3) := dk_153 0 5 (dk_at dksL_law_7 1 rfl rfl)
theorem dL_law_411 : decode cL_law 411 = .ok (.iconst 0, 1) := dk_3 (dk_at dksL_law_7 4 rfl rfl)
theorem dL_law_412 : decode cL_law 412 = .ok (.ireturn, 1) := dk_172 (dk_at dksL_law_7 5 rfl rfl)
theorem dL_law_413 : decode cL_law 413 = .ok (.goto 2626, 3) := dk_167 10 66 (dk_at dksL_law_7 6 rfl rfl)
theorem dL_law_416 : decode cL_law 416 = .ok (.aload_n 1, 1) := dk_43 (dk_at dksL_law_7 9 rfl rfl)
theorem dL_law_417 : decode cL_law 417 = .ok (.aload_n 0, 1) := dk_42 (dk_at dksL_law_7 10 rfl rfl)
theorem dL_law_418 : decode cL_law 418 = .ok (.iload 4, 2) := dk_21 4 (dk_at dksL_law_7 11 rfl rfl)
theorem dL_law_420 : decode cL_law 420 = .ok (.iconst 1, 1) := dk_4 (dk_at dksL_law_7 13 rfl rfl)
theorem dL_law_421 : decode cL_law 421 = .ok (.iadd, 1) := dk_96 (dk_at dksL_law_7 14 rfl rfl)
theorem dL_law_422 : decode cL_law 422 = .ok (.iaload, 1) := dk_46 (dk_at dksL_law_7 15 rfl rfl)
theorem dL_law_423 : decode cL_law 423 = .ok (.aload_n 3, 1) := dk_45 (dk_at dksL_law_7 16 rfl rfl)
theorem dL_law_424 : decode cL_law 424 = .ok (.invokestatic 148, 3) := dk_184 0 148 (dk_at dksL_law_7 17 rfl rfl)
theorem dL_law_427 : decode cL_law 427 = .ok (.istore 5, 2) := dk_54 5 (dk_at dksL_law_7 20 rfl rfl)
theorem dL_law_429 : decode cL_law 429 = .ok (.aload_n 2, 1) := dk_44 (dk_at dksL_law_7 22 rfl rfl)
theorem dL_law_430 : decode cL_law 430 = .ok (.aload_n 0, 1) := dk_42 (dk_at dksL_law_7 23 rfl rfl)
theorem dL_law_431 : decode cL_law 431 = .ok (.iload 4, 2) := dk_21 4 (dk_at dksL_law_8 0 rfl rfl)
theorem dL_law_433 : decode cL_law 433 = .ok (.iconst 1, 1) := dk_4 (dk_at dksL_law_8 2 rfl rfl)
theorem dL_law_434 : decode cL_law 434 = .ok (.iadd, 1) := dk_96 (dk_at dksL_law_8 3 rfl rfl)
theorem dL_law_435 : decode cL_law 435 = .ok (.iaload, 1) := dk_46 (dk_at dksL_law_8 4 rfl rfl)
theorem dL_law_436 : decode cL_law 436 = .ok (.invokevirtual 151, 3) := dk_182 0 151 (dk_at dksL_law_8 5 rfl rfl)
theorem dL_law_439 : decode cL_law 439 = .ok (.istore 6, 2) := dk_54 6 (dk_at dksL_law_8 8 rfl rfl)
theorem dL_law_441 : decode cL_law 441 = .ok (.aload_n 2, 1) := dk_44 (dk_at dksL_law_8 10 rfl rfl)
theorem dL_law_442 : decode cL_law 442 = .ok (.invokevirtual 145, 3) := dk_182 0 145 (dk_at dksL_law_8 11 rfl rfl)
theorem dL_law_445 : decode cL_law 445 = .ok (.iload 5, 2) := dk_21 5 (dk_at dksL_law_8 14 rfl rfl)
theorem dL_law_447 : decode cL_law 447 = .ok (.if_icmp .eq 5, 3) := dk_159 0 5 (dk_at dksL_law_8 16 rfl rfl)
theorem dL_law_450 : decode cL_law 450 = .ok (.iconst 0, 1) := dk_3 (dk_at dksL_law_8 19 rfl rfl)
theorem dL_law_451 : decode cL_law 451 = .ok (.ireturn, 1) := dk_172 (dk_at dksL_law_8 20 rfl rfl)
theorem dL_law_452 : decode cL_law 452 = .ok (.iload 5, 2) := dk_21 5 (dk_at dksL_law_8 21 rfl rfl)
theorem dL_law_454 : decode cL_law 454 = .ok (.ifCond .ne 15, 3) := dk_154 0 15 (dk_at dksL_law_9 0 rfl rfl)
theorem dL_law_457 : decode cL_law 457 = .ok (.aload_n 3, 1) := dk_45 (dk_at dksL_law_9 3 rfl rfl)
theorem dL_law_458 : decode cL_law 458 = .ok (.iconst 0, 1) := dk_3 (dk_at dksL_law_9 4 rfl rfl)
theorem dL_law_459 : decode cL_law 459 = .ok (.laload, 1) := dk_47 (dk_at dksL_law_9 5 rfl rfl)
theorem dL_law_460 : decode cL_law 460 = .ok (.iload 6, 2) := dk_21 6 (dk_at dksL_law_9 6 rfl rfl)
theorem dL_law_462 : decode cL_law 462 = .ok (.i2l, 1) := dk_133 (dk_at dksL_law_9 8 rfl rfl)
theorem dL_law_463 : decode cL_law 463 = .ok (.lcmp, 1) := dk_148 (dk_at dksL_law_9 9 rfl rfl)
theorem dL_law_464 : decode cL_law 464 = .ok (.ifCond .eq 5, 3) := dk_153 0 5 (dk_at dksL_law_9 10 rfl rfl)
theorem dL_law_467 : decode cL_law 467 = .ok (.iconst 0, 1) := dk_3 (dk_at dksL_law_9 13 rfl rfl)
theorem dL_law_468 : decode cL_law 468 = .ok (.ireturn, 1) := dk_172 (dk_at dksL_law_9 14 rfl rfl)
theorem dL_law_469 : decode cL_law 469 = .ok (.goto 2570, 3) := dk_167 10 10 (dk_at dksL_law_9 15 rfl rfl)
theorem dL_law_472 : decode cL_law 472 = .ok (.aload_n 1, 1) := dk_43 (dk_at dksL_law_9 18 rfl rfl)
theorem dL_law_473 : decode cL_law 473 = .ok (.invokevirtual 152, 3) := dk_182 0 152 (dk_at dksL_law_9 19 rfl rfl)
theorem dL_law_476 : decode cL_law 476 = .ok (.aload_n 2, 1) := dk_44 (dk_at dksL_law_9 22 rfl rfl)
theorem dL_law_477 : decode cL_law 477 = .ok (.invokevirtual 155, 3) := dk_182 0 155 (dk_at dksL_law_10 0 rfl rfl)
theorem dL_law_480 : decode cL_law 480 = .ok (.if_icmp .eq 2559, 3) := dk_159 9 255 (dk_at dksL_law_10 3 rfl rfl)
theorem dL_law_483 : decode cL_law 483 = .ok (.iconst 0, 1) := dk_3 (dk_at dksL_law_10 6 rfl rfl)
theorem dL_law_484 : decode cL_law 484 = .ok (.ireturn, 1) := dk_172 (dk_at dksL_law_10 7 rfl rfl)
theorem dL_law_485 : decode cL_law 485 = .ok (.aload_n 1, 1) := dk_43 (dk_at dksL_law_10 8 rfl rfl)
theorem dL_law_486 : decode cL_law 486 = .ok (.aload_n 3, 1) := dk_45 (dk_at dksL_law_10 9 rfl rfl)
theorem dL_law_487 : decode cL_law 487 = .ok (.invokestatic 156, 3) := dk_184 0 156 (dk_at dksL_law_10 10 rfl rfl)
theorem dL_law_490 : decode cL_law 490 = .ok (.istore 5, 2) := dk_54 5 (dk_at dksL_law_10 13 rfl rfl)
theorem dL_law_492 : decode cL_law 492 = .ok (.aload_n 2, 1) := dk_44 (dk_at dksL_law_10 15 rfl rfl)
theorem dL_law_493 : decode cL_law 493 = .ok (.invokevirtual 159, 3) := dk_182 0 159 (dk_at dksL_law_10 16 rfl rfl)
theorem dL_law_496 : decode cL_law 496 = .ok (.istore 6, 2) := dk_54 6 (dk_at dksL_law_10 19 rfl rfl)
theorem dL_law_498 : decode cL_law 498 = .ok (.aload_n 2, 1) := dk_44 (dk_at dksL_law_10 21 rfl rfl)
theorem dL_law_499 : decode cL_law 499 = .ok (.invokevirtual 145, 3) := dk_182 0 145 (dk_at dksL_law_11 0 rfl rfl)
theorem dL_law_502 : decode cL_law 502 = .ok (.iload 5, 2) := dk_21 5 (dk_at dksL_law_11 3 rfl rfl)
theorem dL_law_504 : decode cL_law 504 = .ok (.if_icmp .eq 5, 3) := dk_159 0 5 (dk_at dksL_law_11 5 rfl rfl)
theorem dL_law_507 : decode cL_law 507 = .ok (.iconst 0, 1) := dk_3 (dk_at dksL_law_11 8 rfl rfl)
theorem dL_law_508 : decode cL_law 508 = .ok (.ireturn, 1) := dk_172 (dk_at dksL_law_11 9 rfl rfl)
theorem dL_law_509 : decode cL_law 509 = .ok (.iload 5, 2) := dk_21 5 (dk_at dksL_law_11 10 rfl rfl)
theorem dL_law_511 : decode cL_law 511 = .ok (.ifCond .ne 15, 3) := dk_154 0 15 (dk_at dksL_law_11 12 rfl rfl)
theorem dL_law_514 : decode cL_law 514 = .ok (.aload_n 3, 1) := dk_45 (dk_at dksL_law_11 15 rfl rfl)
theorem dL_law_515 : decode cL_law 515 = .ok (.iconst 0, 1) := dk_3 (dk_at dksL_law_11 16 rfl rfl)
theorem dL_law_516 : decode cL_law 516 = .ok (.laload, 1) := dk_47 (dk_at dksL_law_11 17 rfl rfl)
theorem dL_law_517 : decode cL_law 517 = .ok (.iload 6, 2) := dk_21 6 (dk_at dksL_law_11 18 rfl rfl)
theorem dL_law_519 : decode cL_law 519 = .ok (.i2l, 1) := dk_133 (dk_at dksL_law_11 20 rfl rfl)
theorem dL_law_520 : decode cL_law 520 = .ok (.lcmp, 1) := dk_148 (dk_at dksL_law_11 21 rfl rfl)
theorem dL_law_521 : decode cL_law 521 = .ok (.ifCond .eq 5, 3) := dk_153 0 5 (dk_at dksL_law_12 0 rfl rfl)
theorem dL_law_524 : decode cL_law 524 = .ok (.iconst 0, 1) := dk_3 (dk_at dksL_law_12 3 rfl rfl)
theorem dL_law_525 : decode cL_law 525 = .ok (.ireturn, 1) := dk_172 (dk_at dksL_law_12 4 rfl rfl)
theorem dL_law_526 : decode cL_law 526 = .ok (.goto 2513, 3) := dk_167 9 209 (dk_at dksL_law_12 5 rfl rfl)
theorem dL_law_529 : decode cL_law 529 = .ok (.aload_n 1, 1) := dk_43 (dk_at dksL_law_12 8 rfl rfl)
theorem dL_law_530 : decode cL_law 530 = .ok (.aload_n 0, 1) := dk_42 (dk_at dksL_law_12 9 rfl rfl)
theorem dL_law_531 : decode cL_law 531 = .ok (.iload 4, 2) := dk_21 4 (dk_at dksL_law_12 10 rfl rfl)
theorem dL_law_533 : decode cL_law 533 = .ok (.iconst 1, 1) := dk_4 (dk_at dksL_law_12 12 rfl rfl)
theorem dL_law_534 : decode cL_law 534 = .ok (.iadd, 1) := dk_96 (dk_at dksL_law_12 13 rfl rfl)
theorem dL_law_535 : decode cL_law 535 = .ok (.iaload, 1) := dk_46 (dk_at dksL_law_12 14 rfl rfl)
theorem dL_law_536 : decode cL_law 536 = .ok (.aload_n 3, 1) := dk_45 (dk_at dksL_law_12 15 rfl rfl)
theorem dL_law_537 : decode cL_law 537 = .ok (.invokestatic 160, 3) := dk_184 0 160 (dk_at dksL_law_12 16 rfl rfl)
theorem dL_law_540 : decode cL_law 540 = .ok (.istore 5, 2) := dk_54 5 (dk_at dksL_law_12 19 rfl rfl)
theorem dL_law_542 : decode cL_law 542 = .ok (.aload_n 2, 1) := dk_44 (dk_at dksL_law_12 21 rfl rfl)
theorem dL_law_543 : decode cL_law 543 = .ok (.aload_n 0, 1) := dk_42 (dk_at dksL_law_12 22 rfl rfl)
theorem dL_law_544 : decode cL_law 544 = .ok (.iload 4, 2) := dk_21 4 (dk_at dksL_law_13 0 rfl rfl)
theorem dL_law_546 : decode cL_law 546 = .ok (.iconst 1, 1) := dk_4 (dk_at dksL_law_13 2 rfl rfl)
theorem dL_law_547 : decode cL_law 547 = .ok (.iadd, 1) := dk_96 (dk_at dksL_law_13 3 rfl rfl)
theorem dL_law_548 : decode cL_law 548 = .ok (.iaload, 1) := dk_46 (dk_at dksL_law_13 4 rfl rfl)
theorem dL_law_549 : decode cL_law 549 = .ok (.invokevirtual 162, 3) := dk_182 0 162 (dk_at dksL_law_13 5 rfl rfl)
theorem dL_law_552 : decode cL_law 552 = .ok (.istore 6, 2) := dk_54 6 (dk_at dksL_law_13 8 rfl rfl)
theorem dL_law_554 : decode cL_law 554 = .ok (.aload_n 2, 1) := dk_44 (dk_at dksL_law_13 10 rfl rfl)
theorem dL_law_555 : decode cL_law 555 = .ok (.invokevirtual 145, 3) := dk_182 0 145 (dk_at dksL_law_13 11 rfl rfl)
theorem dL_law_558 : decode cL_law 558 = .ok (.iload 5, 2) := dk_21 5 (dk_at dksL_law_13 14 rfl rfl)
theorem dL_law_560 : decode cL_law 560 = .ok (.if_icmp .eq 5, 3) := dk_159 0 5 (dk_at dksL_law_13 16 rfl rfl)
theorem dL_law_563 : decode cL_law 563 = .ok (.iconst 0, 1) := dk_3 (dk_at dksL_law_13 19 rfl rfl)
theorem dL_law_564 : decode cL_law 564 = .ok (.ireturn, 1) := dk_172 (dk_at dksL_law_13 20 rfl rfl)
theorem dL_law_565 : decode cL_law 565 = .ok (.iload 5, 2) := dk_21 5 (dk_at dksL_law_13 21 rfl rfl)
theorem dL_law_567 : decode cL_law 567 = .ok (.ifCond .ne 15, 3) := dk_154 0 15 (dk_at dksL_law_14 0 rfl rfl)
theorem dL_law_570 : decode cL_law 570 = .ok (.aload_n 3, 1) := dk_45 (dk_at dksL_law_14 3 rfl rfl)
theorem dL_law_571 : decode cL_law 571 = .ok (.iconst 0, 1) := dk_3 (dk_at dksL_law_14 4 rfl rfl)
theorem dL_law_572 : decode cL_law 572 = .ok (.laload, 1) := dk_47 (dk_at dksL_law_14 5 rfl rfl)
theorem dL_law_573 : decode cL_law 573 = .ok (.iload 6, 2) := dk_21 6 (dk_at dksL_law_14 6 rfl rfl)
theorem dL_law_575 : decode cL_law 575 = .ok (.i2l, 1) := dk_133 (dk_at dksL_law_14 8 rfl rfl)
theorem dL_law_576 : decode cL_law 576 = .ok (.lcmp, 1) := dk_148 (dk_at dksL_law_14 9 rfl rfl)
theorem dL_law_577 : decode cL_law 577 = .ok (.ifCond .eq 5, 3) := dk_153 0 5 (dk_at dksL_law_14 10 rfl rfl)
theorem dL_law_580 : decode cL_law 580 = .ok (.iconst 0, 1) := dk_3 (dk_at dksL_law_14 13 rfl rfl)
theorem dL_law_581 : decode cL_law 581 = .ok (.ireturn, 1) := dk_172 (dk_at dksL_law_14 14 rfl rfl)
theorem dL_law_582 : decode cL_law 582 = .ok (.goto 2457, 3) := dk_167 9 153 (dk_at dksL_law_14 15 rfl rfl)
theorem dL_law_585 : decode cL_law 585 = .ok (.aload_n 1, 1) := dk_43 (dk_at dksL_law_14 18 rfl rfl)
theorem dL_law_586 : decode cL_law 586 = .ok (.aload_n 0, 1) := dk_42 (dk_at dksL_law_14 19 rfl rfl)
theorem dL_law_587 : decode cL_law 587 = .ok (.iload 4, 2) := dk_21 4 (dk_at dksL_law_14 20 rfl rfl)
theorem dL_law_589 : decode cL_law 589 = .ok (.iconst 1, 1) := dk_4 (dk_at dksL_law_14 22 rfl rfl)
theorem dL_law_590 : decode cL_law 590 = .ok (.iadd, 1) := dk_96 (dk_at dksL_law_14 23 rfl rfl)
theorem dL_law_591 : decode cL_law 591 = .ok (.iaload, 1) := dk_46 (dk_at dksL_law_15 0 rfl rfl)
theorem dL_law_592 : decode cL_law 592 = .ok (.aload_n 3, 1) := dk_45 (dk_at dksL_law_15 1 rfl rfl)
theorem dL_law_593 : decode cL_law 593 = .ok (.invokestatic 163, 3) := dk_184 0 163 (dk_at dksL_law_15 2 rfl rfl)
theorem dL_law_596 : decode cL_law 596 = .ok (.istore 5, 2) := dk_54 5 (dk_at dksL_law_15 5 rfl rfl)
theorem dL_law_598 : decode cL_law 598 = .ok (.aload_n 2, 1) := dk_44 (dk_at dksL_law_15 7 rfl rfl)
theorem dL_law_599 : decode cL_law 599 = .ok (.aload_n 0, 1) := dk_42 (dk_at dksL_law_15 8 rfl rfl)
theorem dL_law_600 : decode cL_law 600 = .ok (.iload 4, 2) := dk_21 4 (dk_at dksL_law_15 9 rfl rfl)
theorem dL_law_602 : decode cL_law 602 = .ok (.iconst 1, 1) := dk_4 (dk_at dksL_law_15 11 rfl rfl)
theorem dL_law_603 : decode cL_law 603 = .ok (.iadd, 1) := dk_96 (dk_at dksL_law_15 12 rfl rfl)
theorem dL_law_604 : decode cL_law 604 = .ok (.iaload, 1) := dk_46 (dk_at dksL_law_15 13 rfl rfl)
theorem dL_law_605 : decode cL_law 605 = .ok (.invokevirtual 165, 3) := dk_182 0 165 (dk_at dksL_law_15 14 rfl rfl)
theorem dL_law_608 : decode cL_law 608 = .ok (.istore 6, 2) := dk_54 6 (dk_at dksL_law_15 17 rfl rfl)
theorem dL_law_610 : decode cL_law 610 = .ok (.aload_n 2, 1) := dk_44 (dk_at dksL_law_15 19 rfl rfl)
theorem dL_law_611 : decode cL_law 611 = .ok (.invokevirtual 145, 3) := dk_182 0 145 (dk_at dksL_law_15 20 rfl rfl)
theorem dL_law_614 : decode cL_law 614 = .ok (.iload 5, 2) := dk_21 5 (dk_at dksL_law_16 0 rfl rfl)
theorem dL_law_616 : decode cL_law 616 = .ok (.if_icmp .eq 5, 3) := dk_159 0 5 (dk_at dksL_law_16 2 rfl rfl)
theorem dL_law_619 : decode cL_law 619 = .ok (.iconst 0, 1) := dk_3 (dk_at dksL_law_16 5 rfl rfl)
theorem dL_law_620 : decode cL_law 620 = .ok (.ireturn, 1) := dk_172 (dk_at dksL_law_16 6 rfl rfl)
theorem dL_law_621 : decode cL_law 621 = .ok (.iload 5, 2) := dk_21 5 (dk_at dksL_law_16 7 rfl rfl)
theorem dL_law_623 : decode cL_law 623 = .ok (.ifCond .ne 15, 3) := dk_154 0 15 (dk_at dksL_law_16 9 rfl rfl)
theorem dL_law_626 : decode cL_law 626 = .ok (.aload_n 3, 1) := dk_45 (dk_at dksL_law_16 12 rfl rfl)
theorem dL_law_627 : decode cL_law 627 = .ok (.iconst 0, 1) := dk_3 (dk_at dksL_law_16 13 rfl rfl)
theorem dL_law_628 : decode cL_law 628 = .ok (.laload, 1) := dk_47 (dk_at dksL_law_16 14 rfl rfl)
theorem dL_law_629 : decode cL_law 629 = .ok (.iload 6, 2) := dk_21 6 (dk_at dksL_law_16 15 rfl rfl)
theorem dL_law_631 : decode cL_law 631 = .ok (.i2l, 1) := dk_133 (dk_at dksL_law_16 17 rfl rfl)
theorem dL_law_632 : decode cL_law 632 = .ok (.lcmp, 1) := dk_148 (dk_at dksL_law_16 18 rfl rfl)
theorem dL_law_633 : decode cL_law 633 = .ok (.ifCond .eq 5, 3) := dk_153 0 5 (dk_at dksL_law_16 19 rfl rfl)
theorem dL_law_636 : decode cL_law 636 = .ok (.iconst 0, 1) := dk_3 (dk_at dksL_law_16 22 rfl rfl)
theorem dL_law_637 : decode cL_law 637 = .ok (.ireturn, 1) := dk_172 (dk_at dksL_law_16 23 rfl rfl)
theorem dL_law_638 : decode cL_law 638 = .ok (.goto 2401, 3) := dk_167 9 97 (dk_at dksL_law_17 0 rfl rfl)
theorem dL_law_641 : decode cL_law 641 = .ok (.aload_n 1, 1) := dk_43 (dk_at dksL_law_17 3 rfl rfl)
theorem dL_law_642 : decode cL_law 642 = .ok (.aload_n 0, 1) := dk_42 (dk_at dksL_law_17 4 rfl rfl)
theorem dL_law_643 : decode cL_law 643 = .ok (.iload 4, 2) := dk_21 4 (dk_at dksL_law_17 5 rfl rfl)
theorem dL_law_645 : decode cL_law 645 = .ok (.iconst 1, 1) := dk_4 (dk_at dksL_law_17 7 rfl rfl)
theorem dL_law_646 : decode cL_law 646 = .ok (.iadd, 1) := dk_96 (dk_at dksL_law_17 8 rfl rfl)
theorem dL_law_647 : decode cL_law 647 = .ok (.iaload, 1) := dk_46 (dk_at dksL_law_17 9 rfl rfl)
theorem dL_law_648 : decode cL_law 648 = .ok (.aload_n 3, 1) := dk_45 (dk_at dksL_law_17 10 rfl rfl)
theorem dL_law_649 : decode cL_law 649 = .ok (.invokestatic 166, 3) := dk_184 0 166 (dk_at dksL_law_17 11 rfl rfl)
theorem dL_law_652 : decode cL_law 652 = .ok (.istore 5, 2) := dk_54 5 (dk_at dksL_law_17 14 rfl rfl)
theorem dL_law_654 : decode cL_law 654 = .ok (.aload_n 2, 1) := dk_44 (dk_at dksL_law_17 16 rfl rfl)
theorem dL_law_655 : decode cL_law 655 = .ok (.aload_n 0, 1) := dk_42 (dk_at dksL_law_17 17 rfl rfl)
theorem dL_law_656 : decode cL_law 656 = .ok (.iload 4, 2) := dk_21 4 (dk_at dksL_law_17 18 rfl rfl)
theorem dL_law_658 : decode cL_law 658 = .ok (.iconst 1, 1) := dk_4 (dk_at dksL_law_17 20 rfl rfl)
theorem dL_law_659 : decode cL_law 659 = .ok (.iadd, 1) := dk_96 (dk_at dksL_law_17 21 rfl rfl)
theorem dL_law_660 : decode cL_law 660 = .ok (.iaload, 1) := dk_46 (dk_at dksL_law_17 22 rfl rfl)
theorem dL_law_661 : decode cL_law 661 = .ok (.invokevirtual 168, 3) := dk_182 0 168 (dk_at dksL_law_18 0 rfl rfl)
theorem dL_law_664 : decode cL_law 664 = .ok (.istore 6, 2) := dk_54 6 (dk_at dksL_law_18 3 rfl rfl)
theorem dL_law_666 : decode cL_law 666 = .ok (.aload_n 2, 1) := dk_44 (dk_at dksL_law_18 5 rfl rfl)
theorem dL_law_667 : decode cL_law 667 = .ok (.invokevirtual 145, 3) := dk_182 0 145 (dk_at dksL_law_18 6 rfl rfl)
theorem dL_law_670 : decode cL_law 670 = .ok (.iload 5, 2) := dk_21 5 (dk_at dksL_law_18 9 rfl rfl)
theorem dL_law_672 : decode cL_law 672 = .ok (.if_icmp .eq 5, 3) := dk_159 0 5 (dk_at dksL_law_18 11 rfl rfl)
theorem dL_law_675 : decode cL_law 675 = .ok (.iconst 0, 1) := dk_3 (dk_at dksL_law_18 14 rfl rfl)
theorem dL_law_676 : decode cL_law 676 = .ok (.ireturn, 1) := dk_172 (dk_at dksL_law_18 15 rfl rfl)
theorem dL_law_677 : decode cL_law 677 = .ok (.iload 5, 2) := dk_21 5 (dk_at dksL_law_18 16 rfl rfl)
theorem dL_law_679 : decode cL_law 679 = .ok (.ifCond .ne 22, 3) := dk_154 0 22 (dk_at dksL_law_18 18 rfl rfl)
theorem dL_law_682 : decode cL_law 682 = .ok (.aload_n 3, 1) := dk_45 (dk_at dksL_law_18 21 rfl rfl)
theorem dL_law_683 : decode cL_law 683 = .ok (.iconst 0, 1) := dk_3 (dk_at dksL_law_18 22 rfl rfl)
theorem dL_law_684 : decode cL_law 684 = .ok (.laload, 1) := dk_47 (dk_at dksL_law_18 23 rfl rfl)
theorem dL_law_685 : decode cL_law 685 = .ok (.iload 6, 2) := dk_21 6 (dk_at dksL_law_19 0 rfl rfl)
theorem dL_law_687 : decode cL_law 687 = .ok (.ifCond .eq 7, 3) := dk_153 0 7 (dk_at dksL_law_19 2 rfl rfl)
theorem dL_law_690 : decode cL_law 690 = .ok (.lconst 1, 1) := dk_10 (dk_at dksL_law_19 5 rfl rfl)
theorem dL_law_691 : decode cL_law 691 = .ok (.goto 4, 3) := dk_167 0 4 (dk_at dksL_law_19 6 rfl rfl)
theorem dL_law_694 : decode cL_law 694 = .ok (.lconst 0, 1) := dk_9 (dk_at dksL_law_19 9 rfl rfl)
theorem dL_law_695 : decode cL_law 695 = .ok (.lcmp, 1) := dk_148 (dk_at dksL_law_19 10 rfl rfl)
theorem dL_law_696 : decode cL_law 696 = .ok (.ifCond .eq 5, 3) := dk_153 0 5 (dk_at dksL_law_19 11 rfl rfl)
theorem dL_law_699 : decode cL_law 699 = .ok (.iconst 0, 1) := dk_3 (dk_at dksL_law_19 14 rfl rfl)
theorem dL_law_700 : decode cL_law 700 = .ok (.ireturn, 1) := dk_172 (dk_at dksL_law_19 15 rfl rfl)
theorem dL_law_701 : decode cL_law 701 = .ok (.goto 2338, 3) := dk_167 9 34 (dk_at dksL_law_19 16 rfl rfl)
theorem dL_law_704 : decode cL_law 704 = .ok (.aload_n 1, 1) := dk_43 (dk_at dksL_law_19 19 rfl rfl)
theorem dL_law_705 : decode cL_law 705 = .ok (.aload_n 0, 1) := dk_42 (dk_at dksL_law_19 20 rfl rfl)
theorem dL_law_706 : decode cL_law 706 = .ok (.iload 4, 2) := dk_21 4 (dk_at dksL_law_19 21 rfl rfl)
theorem dL_law_708 : decode cL_law 708 = .ok (.iconst 1, 1) := dk_4 (dk_at dksL_law_19 23 rfl rfl)
theorem dL_law_709 : decode cL_law 709 = .ok (.iadd, 1) := dk_96 (dk_at dksL_law_20 0 rfl rfl)
theorem dL_law_710 : decode cL_law 710 = .ok (.iaload, 1) := dk_46 (dk_at dksL_law_20 1 rfl rfl)
theorem dL_law_711 : decode cL_law 711 = .ok (.aload_n 3, 1) := dk_45 (dk_at dksL_law_20 2 rfl rfl)
theorem dL_law_712 : decode cL_law 712 = .ok (.invokestatic 169, 3) := dk_184 0 169 (dk_at dksL_law_20 3 rfl rfl)
theorem dL_law_715 : decode cL_law 715 = .ok (.istore 5, 2) := dk_54 5 (dk_at dksL_law_20 6 rfl rfl)
theorem dL_law_717 : decode cL_law 717 = .ok (.aload_n 2, 1) := dk_44 (dk_at dksL_law_20 8 rfl rfl)
theorem dL_law_718 : decode cL_law 718 = .ok (.aload_n 0, 1) := dk_42 (dk_at dksL_law_20 9 rfl rfl)
theorem dL_law_719 : decode cL_law 719 = .ok (.iload 4, 2) := dk_21 4 (dk_at dksL_law_20 10 rfl rfl)
theorem dL_law_721 : decode cL_law 721 = .ok (.iconst 1, 1) := dk_4 (dk_at dksL_law_20 12 rfl rfl)
theorem dL_law_722 : decode cL_law 722 = .ok (.iadd, 1) := dk_96 (dk_at dksL_law_20 13 rfl rfl)
theorem dL_law_723 : decode cL_law 723 = .ok (.iaload, 1) := dk_46 (dk_at dksL_law_20 14 rfl rfl)
theorem dL_law_724 : decode cL_law 724 = .ok (.invokevirtual 171, 3) := dk_182 0 171 (dk_at dksL_law_20 15 rfl rfl)
theorem dL_law_727 : decode cL_law 727 = .ok (.istore 6, 2) := dk_54 6 (dk_at dksL_law_20 18 rfl rfl)
theorem dL_law_729 : decode cL_law 729 = .ok (.aload_n 2, 1) := dk_44 (dk_at dksL_law_20 20 rfl rfl)
theorem dL_law_730 : decode cL_law 730 = .ok (.invokevirtual 145, 3) := dk_182 0 145 (dk_at dksL_law_20 21 rfl rfl)
theorem dL_law_733 : decode cL_law 733 = .ok (.iload 5, 2) := dk_21 5 (dk_at dksL_law_21 0 rfl rfl)
theorem dL_law_735 : decode cL_law 735 = .ok (.if_icmp .eq 5, 3) := dk_159 0 5 (dk_at dksL_law_21 2 rfl rfl)
theorem dL_law_738 : decode cL_law 738 = .ok (.iconst 0, 1) := dk_3 (dk_at dksL_law_21 5 rfl rfl)
theorem dL_law_739 : decode cL_law 739 = .ok (.ireturn, 1) := dk_172 (dk_at dksL_law_21 6 rfl rfl)
theorem dL_law_740 : decode cL_law 740 = .ok (.iload 5, 2) := dk_21 5 (dk_at dksL_law_21 7 rfl rfl)
theorem dL_law_742 : decode cL_law 742 = .ok (.ifCond .ne 22, 3) := dk_154 0 22 (dk_at dksL_law_21 9 rfl rfl)
theorem dL_law_745 : decode cL_law 745 = .ok (.aload_n 3, 1) := dk_45 (dk_at dksL_law_21 12 rfl rfl)
theorem dL_law_746 : decode cL_law 746 = .ok (.iconst 0, 1) := dk_3 (dk_at dksL_law_21 13 rfl rfl)
theorem dL_law_747 : decode cL_law 747 = .ok (.laload, 1) := dk_47 (dk_at dksL_law_21 14 rfl rfl)
theorem dL_law_748 : decode cL_law 748 = .ok (.iload 6, 2) := dk_21 6 (dk_at dksL_law_21 15 rfl rfl)
theorem dL_law_750 : decode cL_law 750 = .ok (.ifCond .eq 7, 3) := dk_153 0 7 (dk_at dksL_law_21 17 rfl rfl)
theorem dL_law_753 : decode cL_law 753 = .ok (.lconst 1, 1) := dk_10 (dk_at dksL_law_21 20 rfl rfl)
theorem dL_law_754 : decode cL_law 754 = .ok (.goto 4, 3) := dk_167 0 4 (dk_at dksL_law_21 21 rfl rfl)
theorem dL_law_757 : decode cL_law 757 = .ok (.lconst 0, 1) := dk_9 (dk_at dksL_law_22 0 rfl rfl)
theorem dL_law_758 : decode cL_law 758 = .ok (.lcmp, 1) := dk_148 (dk_at dksL_law_22 1 rfl rfl)
theorem dL_law_759 : decode cL_law 759 = .ok (.ifCond .eq 5, 3) := dk_153 0 5 (dk_at dksL_law_22 2 rfl rfl)
theorem dL_law_762 : decode cL_law 762 = .ok (.iconst 0, 1) := dk_3 (dk_at dksL_law_22 5 rfl rfl)
theorem dL_law_763 : decode cL_law 763 = .ok (.ireturn, 1) := dk_172 (dk_at dksL_law_22 6 rfl rfl)
theorem dL_law_764 : decode cL_law 764 = .ok (.goto 2275, 3) := dk_167 8 227 (dk_at dksL_law_22 7 rfl rfl)
theorem dL_law_767 : decode cL_law 767 = .ok (.aload_n 1, 1) := dk_43 (dk_at dksL_law_22 10 rfl rfl)
theorem dL_law_768 : decode cL_law 768 = .ok (.aload_n 0, 1) := dk_42 (dk_at dksL_law_22 11 rfl rfl)
theorem dL_law_769 : decode cL_law 769 = .ok (.iload 4, 2) := dk_21 4 (dk_at dksL_law_22 12 rfl rfl)
theorem dL_law_771 : decode cL_law 771 = .ok (.iconst 1, 1) := dk_4 (dk_at dksL_law_22 14 rfl rfl)
theorem dL_law_772 : decode cL_law 772 = .ok (.iadd, 1) := dk_96 (dk_at dksL_law_22 15 rfl rfl)
theorem dL_law_773 : decode cL_law 773 = .ok (.iaload, 1) := dk_46 (dk_at dksL_law_22 16 rfl rfl)
theorem dL_law_774 : decode cL_law 774 = .ok (.aload_n 0, 1) := dk_42 (dk_at dksL_law_22 17 rfl rfl)
theorem dL_law_775 : decode cL_law 775 = .ok (.iload 4, 2) := dk_21 4 (dk_at dksL_law_22 18 rfl rfl)
theorem dL_law_777 : decode cL_law 777 = .ok (.iconst 2, 1) := dk_5 (dk_at dksL_law_22 20 rfl rfl)
theorem dL_law_778 : decode cL_law 778 = .ok (.iadd, 1) := dk_96 (dk_at dksL_law_22 21 rfl rfl)
theorem dL_law_779 : decode cL_law 779 = .ok (.iaload, 1) := dk_46 (dk_at dksL_law_22 22 rfl rfl)
theorem dL_law_780 : decode cL_law 780 = .ok (.aload_n 3, 1) := dk_45 (dk_at dksL_law_22 23 rfl rfl)
theorem dL_law_781 : decode cL_law 781 = .ok (.invokestatic 172, 3) := dk_184 0 172 (dk_at dksL_law_23 0 rfl rfl)
theorem dL_law_784 : decode cL_law 784 = .ok (.istore 5, 2) := dk_54 5 (dk_at dksL_law_23 3 rfl rfl)
theorem dL_law_786 : decode cL_law 786 = .ok (.aload_n 2, 1) := dk_44 (dk_at dksL_law_23 5 rfl rfl)
theorem dL_law_787 : decode cL_law 787 = .ok (.aload_n 0, 1) := dk_42 (dk_at dksL_law_23 6 rfl rfl)
theorem dL_law_788 : decode cL_law 788 = .ok (.iload 4, 2) := dk_21 4 (dk_at dksL_law_23 7 rfl rfl)
theorem dL_law_790 : decode cL_law 790 = .ok (.iconst 1, 1) := dk_4 (dk_at dksL_law_23 9 rfl rfl)
theorem dL_law_791 : decode cL_law 791 = .ok (.iadd, 1) := dk_96 (dk_at dksL_law_23 10 rfl rfl)
theorem dL_law_792 : decode cL_law 792 = .ok (.iaload, 1) := dk_46 (dk_at dksL_law_23 11 rfl rfl)
theorem dL_law_793 : decode cL_law 793 = .ok (.aload_n 0, 1) := dk_42 (dk_at dksL_law_23 12 rfl rfl)
theorem dL_law_794 : decode cL_law 794 = .ok (.iload 4, 2) := dk_21 4 (dk_at dksL_law_23 13 rfl rfl)
theorem dL_law_796 : decode cL_law 796 = .ok (.iconst 2, 1) := dk_5 (dk_at dksL_law_23 15 rfl rfl)
theorem dL_law_797 : decode cL_law 797 = .ok (.iadd, 1) := dk_96 (dk_at dksL_law_23 16 rfl rfl)
theorem dL_law_798 : decode cL_law 798 = .ok (.iaload, 1) := dk_46 (dk_at dksL_law_23 17 rfl rfl)
theorem dL_law_799 : decode cL_law 799 = .ok (.invokevirtual 175, 3) := dk_182 0 175 (dk_at dksL_law_23 18 rfl rfl)
theorem dL_law_802 : decode cL_law 802 = .ok (.istore 6, 2) := dk_54 6 (dk_at dksL_law_23 21 rfl rfl)
theorem dL_law_804 : decode cL_law 804 = .ok (.aload_n 2, 1) := dk_44 (dk_at dksL_law_23 23 rfl rfl)
theorem dL_law_805 : decode cL_law 805 = .ok (.invokevirtual 145, 3) := dk_182 0 145 (dk_at dksL_law_24 0 rfl rfl)
theorem dL_law_808 : decode cL_law 808 = .ok (.iload 5, 2) := dk_21 5 (dk_at dksL_law_24 3 rfl rfl)
theorem dL_law_810 : decode cL_law 810 = .ok (.if_icmp .eq 5, 3) := dk_159 0 5 (dk_at dksL_law_24 5 rfl rfl)
theorem dL_law_813 : decode cL_law 813 = .ok (.iconst 0, 1) := dk_3 (dk_at dksL_law_24 8 rfl rfl)
theorem dL_law_814 : decode cL_law 814 = .ok (.ireturn, 1) := dk_172 (dk_at dksL_law_24 9 rfl rfl)
theorem dL_law_815 : decode cL_law 815 = .ok (.iload 5, 2) := dk_21 5 (dk_at dksL_law_24 10 rfl rfl)
theorem dL_law_817 : decode cL_law 817 = .ok (.ifCond .ne 15, 3) := dk_154 0 15 (dk_at dksL_law_24 12 rfl rfl)
theorem dL_law_820 : decode cL_law 820 = .ok (.aload_n 3, 1) := dk_45 (dk_at dksL_law_24 15 rfl rfl)
theorem dL_law_821 : decode cL_law 821 = .ok (.iconst 0, 1) := dk_3 (dk_at dksL_law_24 16 rfl rfl)
theorem dL_law_822 : decode cL_law 822 = .ok (.laload, 1) := dk_47 (dk_at dksL_law_24 17 rfl rfl)
theorem dL_law_823 : decode cL_law 823 = .ok (.iload 6, 2) := dk_21 6 (dk_at dksL_law_24 18 rfl rfl)
theorem dL_law_825 : decode cL_law 825 = .ok (.i2l, 1) := dk_133 (dk_at dksL_law_24 20 rfl rfl)
theorem dL_law_826 : decode cL_law 826 = .ok (.lcmp, 1) := dk_148 (dk_at dksL_law_24 21 rfl rfl)
theorem dL_law_827 : decode cL_law 827 = .ok (.ifCond .eq 5, 3) := dk_153 0 5 (dk_at dksL_law_25 0 rfl rfl)
theorem dL_law_830 : decode cL_law 830 = .ok (.iconst 0, 1) := dk_3 (dk_at dksL_law_25 3 rfl rfl)
theorem dL_law_831 : decode cL_law 831 = .ok (.ireturn, 1) := dk_172 (dk_at dksL_law_25 4 rfl rfl)
theorem dL_law_832 : decode cL_law 832 = .ok (.goto 2207, 3) := dk_167 8 159 (dk_at dksL_law_25 5 rfl rfl)
theorem dL_law_835 : decode cL_law 835 = .ok (.aload_n 1, 1) := dk_43 (dk_at dksL_law_25 8 rfl rfl)
theorem dL_law_836 : decode cL_law 836 = .ok (.invokevirtual 176, 3) := dk_182 0 176 (dk_at dksL_law_25 9 rfl rfl)
theorem dL_law_839 : decode cL_law 839 = .ok (.aload_n 2, 1) := dk_44 (dk_at dksL_law_25 12 rfl rfl)
theorem dL_law_840 : decode cL_law 840 = .ok (.invokevirtual 179, 3) := dk_182 0 179 (dk_at dksL_law_25 13 rfl rfl)
theorem dL_law_843 : decode cL_law 843 = .ok (.if_icmp .eq 2196, 3) := dk_159 8 148 (dk_at dksL_law_25 16 rfl rfl)
theorem dL_law_846 : decode cL_law 846 = .ok (.iconst 0, 1) := dk_3 (dk_at dksL_law_25 19 rfl rfl)
theorem dL_law_847 : decode cL_law 847 = .ok (.ireturn, 1) := dk_172 (dk_at dksL_law_25 20 rfl rfl)
theorem dL_law_848 : decode cL_law 848 = .ok (.aload_n 1, 1) := dk_43 (dk_at dksL_law_25 21 rfl rfl)
theorem dL_law_849 : decode cL_law 849 = .ok (.aload_n 0, 1) := dk_42 (dk_at dksL_law_25 22 rfl rfl)
theorem dL_law_850 : decode cL_law 850 = .ok (.iload 4, 2) := dk_21 4 (dk_at dksL_law_26 0 rfl rfl)
theorem dL_law_852 : decode cL_law 852 = .ok (.iconst 1, 1) := dk_4 (dk_at dksL_law_26 2 rfl rfl)
theorem dL_law_853 : decode cL_law 853 = .ok (.iadd, 1) := dk_96 (dk_at dksL_law_26 3 rfl rfl)
theorem dL_law_854 : decode cL_law 854 = .ok (.iaload, 1) := dk_46 (dk_at dksL_law_26 4 rfl rfl)
theorem dL_law_855 : decode cL_law 855 = .ok (.aload_n 3, 1) := dk_45 (dk_at dksL_law_26 5 rfl rfl)
theorem dL_law_856 : decode cL_law 856 = .ok (.invokestatic 180, 3) := dk_184 0 180 (dk_at dksL_law_26 6 rfl rfl)
theorem dL_law_859 : decode cL_law 859 = .ok (.istore 5, 2) := dk_54 5 (dk_at dksL_law_26 9 rfl rfl)
theorem dL_law_861 : decode cL_law 861 = .ok (.aload_n 2, 1) := dk_44 (dk_at dksL_law_26 11 rfl rfl)
theorem dL_law_862 : decode cL_law 862 = .ok (.aload_n 0, 1) := dk_42 (dk_at dksL_law_26 12 rfl rfl)
theorem dL_law_863 : decode cL_law 863 = .ok (.iload 4, 2) := dk_21 4 (dk_at dksL_law_26 13 rfl rfl)
theorem dL_law_865 : decode cL_law 865 = .ok (.iconst 1, 1) := dk_4 (dk_at dksL_law_26 15 rfl rfl)
theorem dL_law_866 : decode cL_law 866 = .ok (.iadd, 1) := dk_96 (dk_at dksL_law_26 16 rfl rfl)
theorem dL_law_867 : decode cL_law 867 = .ok (.iaload, 1) := dk_46 (dk_at dksL_law_26 17 rfl rfl)
theorem dL_law_868 : decode cL_law 868 = .ok (.invokevirtual 182, 3) := dk_182 0 182 (dk_at dksL_law_26 18 rfl rfl)
theorem dL_law_871 : decode cL_law 871 = .ok (.istore 6, 2) := dk_54 6 (dk_at dksL_law_26 21 rfl rfl)
theorem dL_law_873 : decode cL_law 873 = .ok (.aload_n 2, 1) := dk_44 (dk_at dksL_law_26 23 rfl rfl)
theorem dL_law_874 : decode cL_law 874 = .ok (.invokevirtual 145, 3) := dk_182 0 145 (dk_at dksL_law_27 0 rfl rfl)
theorem dL_law_877 : decode cL_law 877 = .ok (.iload 5, 2) := dk_21 5 (dk_at dksL_law_27 3 rfl rfl)
theorem dL_law_879 : decode cL_law 879 = .ok (.if_icmp .eq 5, 3) := dk_159 0 5 (dk_at dksL_law_27 5 rfl rfl)
theorem dL_law_882 : decode cL_law 882 = .ok (.iconst 0, 1) := dk_3 (dk_at dksL_law_27 8 rfl rfl)
theorem dL_law_883 : decode cL_law 883 = .ok (.ireturn, 1) := dk_172 (dk_at dksL_law_27 9 rfl rfl)
theorem dL_law_884 : decode cL_law 884 = .ok (.iload 5, 2) := dk_21 5 (dk_at dksL_law_27 10 rfl rfl)
theorem dL_law_886 : decode cL_law 886 = .ok (.ifCond .ne 15, 3) := dk_154 0 15 (dk_at dksL_law_27 12 rfl rfl)
theorem dL_law_889 : decode cL_law 889 = .ok (.aload_n 3, 1) := dk_45 (dk_at dksL_law_27 15 rfl rfl)
theorem dL_law_890 : decode cL_law 890 = .ok (.iconst 0, 1) := dk_3 (dk_at dksL_law_27 16 rfl rfl)
theorem dL_law_891 : decode cL_law 891 = .ok (.laload, 1) := dk_47 (dk_at dksL_law_27 17 rfl rfl)
theorem dL_law_892 : decode cL_law 892 = .ok (.iload 6, 2) := dk_21 6 (dk_at dksL_law_27 18 rfl rfl)
theorem dL_law_894 : decode cL_law 894 = .ok (.i2l, 1) := dk_133 (dk_at dksL_law_27 20 rfl rfl)
theorem dL_law_895 : decode cL_law 895 = .ok (.lcmp, 1) := dk_148 (dk_at dksL_law_27 21 rfl rfl)
theorem dL_law_896 : decode cL_law 896 = .ok (.ifCond .eq 5, 3) := dk_153 0 5 (dk_at dksL_law_28 0 rfl rfl)
theorem dL_law_899 : decode cL_law 899 = .ok (.iconst 0, 1) := dk_3 (dk_at dksL_law_28 3 rfl rfl)
theorem dL_law_900 : decode cL_law 900 = .ok (.ireturn, 1) := dk_172 (dk_at dksL_law_28 4 rfl rfl)
theorem dL_law_901 : decode cL_law 901 = .ok (.goto 2138, 3) := dk_167 8 90 (dk_at dksL_law_28 5 rfl rfl)
theorem dL_law_904 : decode cL_law 904 = .ok (.aload_n 1, 1) := dk_43 (dk_at dksL_law_28 8 rfl rfl)
theorem dL_law_905 : decode cL_law 905 = .ok (.aload_n 0, 1) := dk_42 (dk_at dksL_law_28 9 rfl rfl)
theorem dL_law_906 : decode cL_law 906 = .ok (.iload 4, 2) := dk_21 4 (dk_at dksL_law_28 10 rfl rfl)
theorem dL_law_908 : decode cL_law 908 = .ok (.iconst 1, 1) := dk_4 (dk_at dksL_law_28 12 rfl rfl)
theorem dL_law_909 : decode cL_law 909 = .ok (.iadd, 1) := dk_96 (dk_at dksL_law_28 13 rfl rfl)
theorem dL_law_910 : decode cL_law 910 = .ok (.iaload, 1) := dk_46 (dk_at dksL_law_28 14 rfl rfl)
theorem dL_law_911 : decode cL_law 911 = .ok (.aload_n 0, 1) := dk_42 (dk_at dksL_law_28 15 rfl rfl)
theorem dL_law_912 : decode cL_law 912 = .ok (.iload 4, 2) := dk_21 4 (dk_at dksL_law_28 16 rfl rfl)
theorem dL_law_914 : decode cL_law 914 = .ok (.iconst 2, 1) := dk_5 (dk_at dksL_law_28 18 rfl rfl)
theorem dL_law_915 : decode cL_law 915 = .ok (.iadd, 1) := dk_96 (dk_at dksL_law_28 19 rfl rfl)
theorem dL_law_916 : decode cL_law 916 = .ok (.iaload, 1) := dk_46 (dk_at dksL_law_28 20 rfl rfl)
theorem dL_law_917 : decode cL_law 917 = .ok (.aload_n 3, 1) := dk_45 (dk_at dksL_law_28 21 rfl rfl)
theorem dL_law_918 : decode cL_law 918 = .ok (.invokestatic 183, 3) := dk_184 0 183 (dk_at dksL_law_29 0 rfl rfl)
theorem dL_law_921 : decode cL_law 921 = .ok (.istore 5, 2) := dk_54 5 (dk_at dksL_law_29 3 rfl rfl)
theorem dL_law_923 : decode cL_law 923 = .ok (.aload_n 2, 1) := dk_44 (dk_at dksL_law_29 5 rfl rfl)
theorem dL_law_924 : decode cL_law 924 = .ok (.aload_n 0, 1) := dk_42 (dk_at dksL_law_29 6 rfl rfl)
theorem dL_law_925 : decode cL_law 925 = .ok (.iload 4, 2) := dk_21 4 (dk_at dksL_law_29 7 rfl rfl)
theorem dL_law_927 : decode cL_law 927 = .ok (.iconst 1, 1) := dk_4 (dk_at dksL_law_29 9 rfl rfl)
theorem dL_law_928 : decode cL_law 928 = .ok (.iadd, 1) := dk_96 (dk_at dksL_law_29 10 rfl rfl)
theorem dL_law_929 : decode cL_law 929 = .ok (.iaload, 1) := dk_46 (dk_at dksL_law_29 11 rfl rfl)
theorem dL_law_930 : decode cL_law 930 = .ok (.aload_n 0, 1) := dk_42 (dk_at dksL_law_29 12 rfl rfl)
theorem dL_law_931 : decode cL_law 931 = .ok (.iload 4, 2) := dk_21 4 (dk_at dksL_law_29 13 rfl rfl)
theorem dL_law_933 : decode cL_law 933 = .ok (.iconst 2, 1) := dk_5 (dk_at dksL_law_29 15 rfl rfl)
theorem dL_law_934 : decode cL_law 934 = .ok (.iadd, 1) := dk_96 (dk_at dksL_law_29 16 rfl rfl)
theorem dL_law_935 : decode cL_law 935 = .ok (.iaload, 1) := dk_46 (dk_at dksL_law_29 17 rfl rfl)
theorem dL_law_936 : decode cL_law 936 = .ok (.invokevirtual 185, 3) := dk_182 0 185 (dk_at dksL_law_29 18 rfl rfl)
theorem dL_law_939 : decode cL_law 939 = .ok (.istore 6, 2) := dk_54 6 (dk_at dksL_law_29 21 rfl rfl)
theorem dL_law_941 : decode cL_law 941 = .ok (.aload_n 2, 1) := dk_44 (dk_at dksL_law_29 23 rfl rfl)
theorem dL_law_942 : decode cL_law 942 = .ok (.invokevirtual 145, 3) := dk_182 0 145 (dk_at dksL_law_30 0 rfl rfl)
theorem dL_law_945 : decode cL_law 945 = .ok (.iload 5, 2) := dk_21 5 (dk_at dksL_law_30 3 rfl rfl)
theorem dL_law_947 : decode cL_law 947 = .ok (.if_icmp .eq 5, 3) := dk_159 0 5 (dk_at dksL_law_30 5 rfl rfl)
theorem dL_law_950 : decode cL_law 950 = .ok (.iconst 0, 1) := dk_3 (dk_at dksL_law_30 8 rfl rfl)
theorem dL_law_951 : decode cL_law 951 = .ok (.ireturn, 1) := dk_172 (dk_at dksL_law_30 9 rfl rfl)
theorem dL_law_952 : decode cL_law 952 = .ok (.iload 5, 2) := dk_21 5 (dk_at dksL_law_30 10 rfl rfl)
theorem dL_law_954 : decode cL_law 954 = .ok (.ifCond .ne 15, 3) := dk_154 0 15 (dk_at dksL_law_30 12 rfl rfl)
theorem dL_law_957 : decode cL_law 957 = .ok (.aload_n 3, 1) := dk_45 (dk_at dksL_law_30 15 rfl rfl)
theorem dL_law_958 : decode cL_law 958 = .ok (.iconst 0, 1) := dk_3 (dk_at dksL_law_30 16 rfl rfl)
theorem dL_law_959 : decode cL_law 959 = .ok (.laload, 1) := dk_47 (dk_at dksL_law_30 17 rfl rfl)
theorem dL_law_960 : decode cL_law 960 = .ok (.iload 6, 2) := dk_21 6 (dk_at dksL_law_30 18 rfl rfl)
theorem dL_law_962 : decode cL_law 962 = .ok (.i2l, 1) := dk_133 (dk_at dksL_law_30 20 rfl rfl)
theorem dL_law_963 : decode cL_law 963 = .ok (.lcmp, 1) := dk_148 (dk_at dksL_law_30 21 rfl rfl)
theorem dL_law_964 : decode cL_law 964 = .ok (.ifCond .eq 5, 3) := dk_153 0 5 (dk_at dksL_law_31 0 rfl rfl)
theorem dL_law_967 : decode cL_law 967 = .ok (.iconst 0, 1) := dk_3 (dk_at dksL_law_31 3 rfl rfl)
theorem dL_law_968 : decode cL_law 968 = .ok (.ireturn, 1) := dk_172 (dk_at dksL_law_31 4 rfl rfl)
theorem dL_law_969 : decode cL_law 969 = .ok (.goto 2070, 3) := dk_167 8 22 (dk_at dksL_law_31 5 rfl rfl)
theorem dL_law_972 : decode cL_law 972 = .ok (.aload_n 1, 1) := dk_43 (dk_at dksL_law_31 8 rfl rfl)
theorem dL_law_973 : decode cL_law 973 = .ok (.aload_n 0, 1) := dk_42 (dk_at dksL_law_31 9 rfl rfl)
theorem dL_law_974 : decode cL_law 974 = .ok (.iload 4, 2) := dk_21 4 (dk_at dksL_law_31 10 rfl rfl)
theorem dL_law_976 : decode cL_law 976 = .ok (.iconst 1, 1) := dk_4 (dk_at dksL_law_31 12 rfl rfl)
theorem dL_law_977 : decode cL_law 977 = .ok (.iadd, 1) := dk_96 (dk_at dksL_law_31 13 rfl rfl)
theorem dL_law_978 : decode cL_law 978 = .ok (.iaload, 1) := dk_46 (dk_at dksL_law_31 14 rfl rfl)
theorem dL_law_979 : decode cL_law 979 = .ok (.aload_n 0, 1) := dk_42 (dk_at dksL_law_31 15 rfl rfl)
theorem dL_law_980 : decode cL_law 980 = .ok (.iload 4, 2) := dk_21 4 (dk_at dksL_law_31 16 rfl rfl)
theorem dL_law_982 : decode cL_law 982 = .ok (.iconst 2, 1) := dk_5 (dk_at dksL_law_31 18 rfl rfl)
theorem dL_law_983 : decode cL_law 983 = .ok (.iadd, 1) := dk_96 (dk_at dksL_law_31 19 rfl rfl)
theorem dL_law_984 : decode cL_law 984 = .ok (.iaload, 1) := dk_46 (dk_at dksL_law_31 20 rfl rfl)
theorem dL_law_985 : decode cL_law 985 = .ok (.aload_n 3, 1) := dk_45 (dk_at dksL_law_31 21 rfl rfl)
theorem dL_law_986 : decode cL_law 986 = .ok (.invokestatic 186, 3) := dk_184 0 186 (dk_at dksL_law_32 0 rfl rfl)
theorem dL_law_989 : decode cL_law 989 = .ok (.istore 5, 2) := dk_54 5 (dk_at dksL_law_32 3 rfl rfl)
theorem dL_law_991 : decode cL_law 991 = .ok (.aload_n 2, 1) := dk_44 (dk_at dksL_law_32 5 rfl rfl)
theorem dL_law_992 : decode cL_law 992 = .ok (.aload_n 0, 1) := dk_42 (dk_at dksL_law_32 6 rfl rfl)
theorem dL_law_993 : decode cL_law 993 = .ok (.iload 4, 2) := dk_21 4 (dk_at dksL_law_32 7 rfl rfl)
theorem dL_law_995 : decode cL_law 995 = .ok (.iconst 1, 1) := dk_4 (dk_at dksL_law_32 9 rfl rfl)
theorem dL_law_996 : decode cL_law 996 = .ok (.iadd, 1) := dk_96 (dk_at dksL_law_32 10 rfl rfl)
theorem dL_law_997 : decode cL_law 997 = .ok (.iaload, 1) := dk_46 (dk_at dksL_law_32 11 rfl rfl)
theorem dL_law_998 : decode cL_law 998 = .ok (.aload_n 0, 1) := dk_42 (dk_at dksL_law_32 12 rfl rfl)
theorem dL_law_999 : decode cL_law 999 = .ok (.iload 4, 2) := dk_21 4 (dk_at dksL_law_32 13 rfl rfl)
theorem dL_law_1001 : decode cL_law 1001 = .ok (.iconst 2, 1) := dk_5 (dk_at dksL_law_32 15 rfl rfl)
theorem dL_law_1002 : decode cL_law 1002 = .ok (.iadd, 1) := dk_96 (dk_at dksL_law_32 16 rfl rfl)
theorem dL_law_1003 : decode cL_law 1003 = .ok (.iaload, 1) := dk_46 (dk_at dksL_law_32 17 rfl rfl)
theorem dL_law_1004 : decode cL_law 1004 = .ok (.invokevirtual 188, 3) := dk_182 0 188 (dk_at dksL_law_32 18 rfl rfl)
theorem dL_law_1007 : decode cL_law 1007 = .ok (.istore 6, 2) := dk_54 6 (dk_at dksL_law_32 21 rfl rfl)
theorem dL_law_1009 : decode cL_law 1009 = .ok (.aload_n 2, 1) := dk_44 (dk_at dksL_law_32 23 rfl rfl)
theorem dL_law_1010 : decode cL_law 1010 = .ok (.invokevirtual 145, 3) := dk_182 0 145 (dk_at dksL_law_33 0 rfl rfl)
theorem dL_law_1013 : decode cL_law 1013 = .ok (.iload 5, 2) := dk_21 5 (dk_at dksL_law_33 3 rfl rfl)
theorem dL_law_1015 : decode cL_law 1015 = .ok (.if_icmp .eq 5, 3) := dk_159 0 5 (dk_at dksL_law_33 5 rfl rfl)
theorem dL_law_1018 : decode cL_law 1018 = .ok (.iconst 0, 1) := dk_3 (dk_at dksL_law_33 8 rfl rfl)
theorem dL_law_1019 : decode cL_law 1019 = .ok (.ireturn, 1) := dk_172 (dk_at dksL_law_33 9 rfl rfl)
theorem dL_law_1020 : decode cL_law 1020 = .ok (.iload 5, 2) := dk_21 5 (dk_at dksL_law_33 10 rfl rfl)
theorem dL_law_1022 : decode cL_law 1022 = .ok (.ifCond .ne 15, 3) := dk_154 0 15 (dk_at dksL_law_33 12 rfl rfl)
theorem dL_law_1025 : decode cL_law 1025 = .ok (.aload_n 3, 1) := dk_45 (dk_at dksL_law_33 15 rfl rfl)
theorem dL_law_1026 : decode cL_law 1026 = .ok (.iconst 0, 1) := dk_3 (dk_at dksL_law_33 16 rfl rfl)
theorem dL_law_1027 : decode cL_law 1027 = .ok (.laload, 1) := dk_47 (dk_at dksL_law_33 17 rfl rfl)
theorem dL_law_1028 : decode cL_law 1028 = .ok (.iload 6, 2) := dk_21 6 (dk_at dksL_law_33 18 rfl rfl)
theorem dL_law_1030 : decode cL_law 1030 = .ok (.i2l, 1) := dk_133 (dk_at dksL_law_33 20 rfl rfl)
theorem dL_law_1031 : decode cL_law 1031 = .ok (.lcmp, 1) := dk_148 (dk_at dksL_law_33 21 rfl rfl)
theorem dL_law_1032 : decode cL_law 1032 = .ok (.ifCond .eq 5, 3) := dk_153 0 5 (dk_at dksL_law_34 0 rfl rfl)
theorem dL_law_1035 : decode cL_law 1035 = .ok (.iconst 0, 1) := dk_3 (dk_at dksL_law_34 3 rfl rfl)
theorem dL_law_1036 : decode cL_law 1036 = .ok (.ireturn, 1) := dk_172 (dk_at dksL_law_34 4 rfl rfl)
theorem dL_law_1037 : decode cL_law 1037 = .ok (.goto 2002, 3) := dk_167 7 210 (dk_at dksL_law_34 5 rfl rfl)
theorem dL_law_1040 : decode cL_law 1040 = .ok (.aload_n 1, 1) := dk_43 (dk_at dksL_law_34 8 rfl rfl)
theorem dL_law_1041 : decode cL_law 1041 = .ok (.aload_n 0, 1) := dk_42 (dk_at dksL_law_34 9 rfl rfl)
theorem dL_law_1042 : decode cL_law 1042 = .ok (.iload 4, 2) := dk_21 4 (dk_at dksL_law_34 10 rfl rfl)
theorem dL_law_1044 : decode cL_law 1044 = .ok (.iconst 1, 1) := dk_4 (dk_at dksL_law_34 12 rfl rfl)
theorem dL_law_1045 : decode cL_law 1045 = .ok (.iadd, 1) := dk_96 (dk_at dksL_law_34 13 rfl rfl)
theorem dL_law_1046 : decode cL_law 1046 = .ok (.iaload, 1) := dk_46 (dk_at dksL_law_34 14 rfl rfl)
theorem dL_law_1047 : decode cL_law 1047 = .ok (.aload_n 3, 1) := dk_45 (dk_at dksL_law_34 15 rfl rfl)
theorem dL_law_1048 : decode cL_law 1048 = .ok (.invokestatic 189, 3) := dk_184 0 189 (dk_at dksL_law_34 16 rfl rfl)
theorem dL_law_1051 : decode cL_law 1051 = .ok (.istore 5, 2) := dk_54 5 (dk_at dksL_law_34 19 rfl rfl)
theorem dL_law_1053 : decode cL_law 1053 = .ok (.aload_n 2, 1) := dk_44 (dk_at dksL_law_34 21 rfl rfl)
theorem dL_law_1054 : decode cL_law 1054 = .ok (.aload_n 0, 1) := dk_42 (dk_at dksL_law_34 22 rfl rfl)
theorem dL_law_1055 : decode cL_law 1055 = .ok (.iload 4, 2) := dk_21 4 (dk_at dksL_law_35 0 rfl rfl)
theorem dL_law_1057 : decode cL_law 1057 = .ok (.iconst 1, 1) := dk_4 (dk_at dksL_law_35 2 rfl rfl)
theorem dL_law_1058 : decode cL_law 1058 = .ok (.iadd, 1) := dk_96 (dk_at dksL_law_35 3 rfl rfl)
theorem dL_law_1059 : decode cL_law 1059 = .ok (.iaload, 1) := dk_46 (dk_at dksL_law_35 4 rfl rfl)
theorem dL_law_1060 : decode cL_law 1060 = .ok (.invokevirtual 191, 3) := dk_182 0 191 (dk_at dksL_law_35 5 rfl rfl)
theorem dL_law_1063 : decode cL_law 1063 = .ok (.istore 6, 2) := dk_54 6 (dk_at dksL_law_35 8 rfl rfl)
theorem dL_law_1065 : decode cL_law 1065 = .ok (.aload_n 2, 1) := dk_44 (dk_at dksL_law_35 10 rfl rfl)
theorem dL_law_1066 : decode cL_law 1066 = .ok (.invokevirtual 145, 3) := dk_182 0 145 (dk_at dksL_law_35 11 rfl rfl)
theorem dL_law_1069 : decode cL_law 1069 = .ok (.iload 5, 2) := dk_21 5 (dk_at dksL_law_35 14 rfl rfl)
theorem dL_law_1071 : decode cL_law 1071 = .ok (.if_icmp .eq 5, 3) := dk_159 0 5 (dk_at dksL_law_35 16 rfl rfl)
theorem dL_law_1074 : decode cL_law 1074 = .ok (.iconst 0, 1) := dk_3 (dk_at dksL_law_35 19 rfl rfl)
theorem dL_law_1075 : decode cL_law 1075 = .ok (.ireturn, 1) := dk_172 (dk_at dksL_law_35 20 rfl rfl)
theorem dL_law_1076 : decode cL_law 1076 = .ok (.iload 5, 2) := dk_21 5 (dk_at dksL_law_35 21 rfl rfl)
theorem dL_law_1078 : decode cL_law 1078 = .ok (.ifCond .ne 15, 3) := dk_154 0 15 (dk_at dksL_law_36 0 rfl rfl)
theorem dL_law_1081 : decode cL_law 1081 = .ok (.aload_n 3, 1) := dk_45 (dk_at dksL_law_36 3 rfl rfl)
theorem dL_law_1082 : decode cL_law 1082 = .ok (.iconst 0, 1) := dk_3 (dk_at dksL_law_36 4 rfl rfl)
theorem dL_law_1083 : decode cL_law 1083 = .ok (.laload, 1) := dk_47 (dk_at dksL_law_36 5 rfl rfl)
theorem dL_law_1084 : decode cL_law 1084 = .ok (.iload 6, 2) := dk_21 6 (dk_at dksL_law_36 6 rfl rfl)
theorem dL_law_1086 : decode cL_law 1086 = .ok (.i2l, 1) := dk_133 (dk_at dksL_law_36 8 rfl rfl)
theorem dL_law_1087 : decode cL_law 1087 = .ok (.lcmp, 1) := dk_148 (dk_at dksL_law_36 9 rfl rfl)
theorem dL_law_1088 : decode cL_law 1088 = .ok (.ifCond .eq 5, 3) := dk_153 0 5 (dk_at dksL_law_36 10 rfl rfl)
theorem dL_law_1091 : decode cL_law 1091 = .ok (.iconst 0, 1) := dk_3 (dk_at dksL_law_36 13 rfl rfl)
theorem dL_law_1092 : decode cL_law 1092 = .ok (.ireturn, 1) := dk_172 (dk_at dksL_law_36 14 rfl rfl)
theorem dL_law_1093 : decode cL_law 1093 = .ok (.goto 1946, 3) := dk_167 7 154 (dk_at dksL_law_36 15 rfl rfl)
theorem dL_law_1096 : decode cL_law 1096 = .ok (.aload_n 1, 1) := dk_43 (dk_at dksL_law_36 18 rfl rfl)
theorem dL_law_1097 : decode cL_law 1097 = .ok (.aload_n 0, 1) := dk_42 (dk_at dksL_law_36 19 rfl rfl)
theorem dL_law_1098 : decode cL_law 1098 = .ok (.iload 4, 2) := dk_21 4 (dk_at dksL_law_36 20 rfl rfl)
theorem dL_law_1100 : decode cL_law 1100 = .ok (.iconst 1, 1) := dk_4 (dk_at dksL_law_36 22 rfl rfl)
theorem dL_law_1101 : decode cL_law 1101 = .ok (.iadd, 1) := dk_96 (dk_at dksL_law_36 23 rfl rfl)
theorem dL_law_1102 : decode cL_law 1102 = .ok (.iaload, 1) := dk_46 (dk_at dksL_law_37 0 rfl rfl)
theorem dL_law_1103 : decode cL_law 1103 = .ok (.aload_n 3, 1) := dk_45 (dk_at dksL_law_37 1 rfl rfl)
theorem dL_law_1104 : decode cL_law 1104 = .ok (.invokestatic 192, 3) := dk_184 0 192 (dk_at dksL_law_37 2 rfl rfl)
theorem dL_law_1107 : decode cL_law 1107 = .ok (.istore 5, 2) := dk_54 5 (dk_at dksL_law_37 5 rfl rfl)
theorem dL_law_1109 : decode cL_law 1109 = .ok (.aload_n 2, 1) := dk_44 (dk_at dksL_law_37 7 rfl rfl)
theorem dL_law_1110 : decode cL_law 1110 = .ok (.aload_n 0, 1) := dk_42 (dk_at dksL_law_37 8 rfl rfl)
theorem dL_law_1111 : decode cL_law 1111 = .ok (.iload 4, 2) := dk_21 4 (dk_at dksL_law_37 9 rfl rfl)
theorem dL_law_1113 : decode cL_law 1113 = .ok (.iconst 1, 1) := dk_4 (dk_at dksL_law_37 11 rfl rfl)
theorem dL_law_1114 : decode cL_law 1114 = .ok (.iadd, 1) := dk_96 (dk_at dksL_law_37 12 rfl rfl)
theorem dL_law_1115 : decode cL_law 1115 = .ok (.iaload, 1) := dk_46 (dk_at dksL_law_37 13 rfl rfl)
theorem dL_law_1116 : decode cL_law 1116 = .ok (.invokevirtual 194, 3) := dk_182 0 194 (dk_at dksL_law_37 14 rfl rfl)
theorem dL_law_1119 : decode cL_law 1119 = .ok (.istore 6, 2) := dk_54 6 (dk_at dksL_law_37 17 rfl rfl)
theorem dL_law_1121 : decode cL_law 1121 = .ok (.aload_n 2, 1) := dk_44 (dk_at dksL_law_37 19 rfl rfl)
theorem dL_law_1122 : decode cL_law 1122 = .ok (.invokevirtual 145, 3) := dk_182 0 145 (dk_at dksL_law_37 20 rfl rfl)
theorem dL_law_1125 : decode cL_law 1125 = .ok (.iload 5, 2) := dk_21 5 (dk_at dksL_law_38 0 rfl rfl)
theorem dL_law_1127 : decode cL_law 1127 = .ok (.if_icmp .eq 5, 3) := dk_159 0 5 (dk_at dksL_law_38 2 rfl rfl)
theorem dL_law_1130 : decode cL_law 1130 = .ok (.iconst 0, 1) := dk_3 (dk_at dksL_law_38 5 rfl rfl)
theorem dL_law_1131 : decode cL_law 1131 = .ok (.ireturn, 1) := dk_172 (dk_at dksL_law_38 6 rfl rfl)
theorem dL_law_1132 : decode cL_law 1132 = .ok (.iload 5, 2) := dk_21 5 (dk_at dksL_law_38 7 rfl rfl)
theorem dL_law_1134 : decode cL_law 1134 = .ok (.ifCond .ne 15, 3) := dk_154 0 15 (dk_at dksL_law_38 9 rfl rfl)
theorem dL_law_1137 : decode cL_law 1137 = .ok (.aload_n 3, 1) := dk_45 (dk_at dksL_law_38 12 rfl rfl)
theorem dL_law_1138 : decode cL_law 1138 = .ok (.iconst 0, 1) := dk_3 (dk_at dksL_law_38 13 rfl rfl)
theorem dL_law_1139 : decode cL_law 1139 = .ok (.laload, 1) := dk_47 (dk_at dksL_law_38 14 rfl rfl)
theorem dL_law_1140 : decode cL_law 1140 = .ok (.iload 6, 2) := dk_21 6 (dk_at dksL_law_38 15 rfl rfl)
theorem dL_law_1142 : decode cL_law 1142 = .ok (.i2l, 1) := dk_133 (dk_at dksL_law_38 17 rfl rfl)
theorem dL_law_1143 : decode cL_law 1143 = .ok (.lcmp, 1) := dk_148 (dk_at dksL_law_38 18 rfl rfl)
theorem dL_law_1144 : decode cL_law 1144 = .ok (.ifCond .eq 5, 3) := dk_153 0 5 (dk_at dksL_law_38 19 rfl rfl)
theorem dL_law_1147 : decode cL_law 1147 = .ok (.iconst 0, 1) := dk_3 (dk_at dksL_law_38 22 rfl rfl)
theorem dL_law_1148 : decode cL_law 1148 = .ok (.ireturn, 1) := dk_172 (dk_at dksL_law_38 23 rfl rfl)
theorem dL_law_1149 : decode cL_law 1149 = .ok (.goto 1890, 3) := dk_167 7 98 (dk_at dksL_law_39 0 rfl rfl)
theorem dL_law_1152 : decode cL_law 1152 = .ok (.aload_n 1, 1) := dk_43 (dk_at dksL_law_39 3 rfl rfl)
theorem dL_law_1153 : decode cL_law 1153 = .ok (.aload_n 0, 1) := dk_42 (dk_at dksL_law_39 4 rfl rfl)
theorem dL_law_1154 : decode cL_law 1154 = .ok (.iload 4, 2) := dk_21 4 (dk_at dksL_law_39 5 rfl rfl)
theorem dL_law_1156 : decode cL_law 1156 = .ok (.iconst 1, 1) := dk_4 (dk_at dksL_law_39 7 rfl rfl)
theorem dL_law_1157 : decode cL_law 1157 = .ok (.iadd, 1) := dk_96 (dk_at dksL_law_39 8 rfl rfl)
theorem dL_law_1158 : decode cL_law 1158 = .ok (.iaload, 1) := dk_46 (dk_at dksL_law_39 9 rfl rfl)
theorem dL_law_1159 : decode cL_law 1159 = .ok (.aload_n 3, 1) := dk_45 (dk_at dksL_law_39 10 rfl rfl)
theorem dL_law_1160 : decode cL_law 1160 = .ok (.invokestatic 195, 3) := dk_184 0 195 (dk_at dksL_law_39 11 rfl rfl)
theorem dL_law_1163 : decode cL_law 1163 = .ok (.istore 5, 2) := dk_54 5 (dk_at dksL_law_39 14 rfl rfl)
theorem dL_law_1165 : decode cL_law 1165 = .ok (.aload_n 2, 1) := dk_44 (dk_at dksL_law_39 16 rfl rfl)
theorem dL_law_1166 : decode cL_law 1166 = .ok (.aload_n 0, 1) := dk_42 (dk_at dksL_law_39 17 rfl rfl)
theorem dL_law_1167 : decode cL_law 1167 = .ok (.iload 4, 2) := dk_21 4 (dk_at dksL_law_39 18 rfl rfl)
theorem dL_law_1169 : decode cL_law 1169 = .ok (.iconst 1, 1) := dk_4 (dk_at dksL_law_39 20 rfl rfl)
theorem dL_law_1170 : decode cL_law 1170 = .ok (.iadd, 1) := dk_96 (dk_at dksL_law_39 21 rfl rfl)
theorem dL_law_1171 : decode cL_law 1171 = .ok (.iaload, 1) := dk_46 (dk_at dksL_law_39 22 rfl rfl)
theorem dL_law_1172 : decode cL_law 1172 = .ok (.invokevirtual 197, 3) := dk_182 0 197 (dk_at dksL_law_40 0 rfl rfl)
theorem dL_law_1175 : decode cL_law 1175 = .ok (.istore 6, 2) := dk_54 6 (dk_at dksL_law_40 3 rfl rfl)
theorem dL_law_1177 : decode cL_law 1177 = .ok (.aload_n 2, 1) := dk_44 (dk_at dksL_law_40 5 rfl rfl)
theorem dL_law_1178 : decode cL_law 1178 = .ok (.invokevirtual 145, 3) := dk_182 0 145 (dk_at dksL_law_40 6 rfl rfl)
theorem dL_law_1181 : decode cL_law 1181 = .ok (.iload 5, 2) := dk_21 5 (dk_at dksL_law_40 9 rfl rfl)
theorem dL_law_1183 : decode cL_law 1183 = .ok (.if_icmp .eq 5, 3) := dk_159 0 5 (dk_at dksL_law_40 11 rfl rfl)
theorem dL_law_1186 : decode cL_law 1186 = .ok (.iconst 0, 1) := dk_3 (dk_at dksL_law_40 14 rfl rfl)
theorem dL_law_1187 : decode cL_law 1187 = .ok (.ireturn, 1) := dk_172 (dk_at dksL_law_40 15 rfl rfl)
theorem dL_law_1188 : decode cL_law 1188 = .ok (.iload 5, 2) := dk_21 5 (dk_at dksL_law_40 16 rfl rfl)
theorem dL_law_1190 : decode cL_law 1190 = .ok (.ifCond .ne 15, 3) := dk_154 0 15 (dk_at dksL_law_40 18 rfl rfl)
theorem dL_law_1193 : decode cL_law 1193 = .ok (.aload_n 3, 1) := dk_45 (dk_at dksL_law_40 21 rfl rfl)
theorem dL_law_1194 : decode cL_law 1194 = .ok (.iconst 0, 1) := dk_3 (dk_at dksL_law_40 22 rfl rfl)
theorem dL_law_1195 : decode cL_law 1195 = .ok (.laload, 1) := dk_47 (dk_at dksL_law_40 23 rfl rfl)
theorem dL_law_1196 : decode cL_law 1196 = .ok (.iload 6, 2) := dk_21 6 (dk_at dksL_law_41 0 rfl rfl)
theorem dL_law_1198 : decode cL_law 1198 = .ok (.i2l, 1) := dk_133 (dk_at dksL_law_41 2 rfl rfl)
theorem dL_law_1199 : decode cL_law 1199 = .ok (.lcmp, 1) := dk_148 (dk_at dksL_law_41 3 rfl rfl)
theorem dL_law_1200 : decode cL_law 1200 = .ok (.ifCond .eq 5, 3) := dk_153 0 5 (dk_at dksL_law_41 4 rfl rfl)
theorem dL_law_1203 : decode cL_law 1203 = .ok (.iconst 0, 1) := dk_3 (dk_at dksL_law_41 7 rfl rfl)
theorem dL_law_1204 : decode cL_law 1204 = .ok (.ireturn, 1) := dk_172 (dk_at dksL_law_41 8 rfl rfl)
theorem dL_law_1205 : decode cL_law 1205 = .ok (.goto 1834, 3) := dk_167 7 42 (dk_at dksL_law_41 9 rfl rfl)
theorem dL_law_1208 : decode cL_law 1208 = .ok (.aload_n 1, 1) := dk_43 (dk_at dksL_law_41 12 rfl rfl)
theorem dL_law_1209 : decode cL_law 1209 = .ok (.aload_n 3, 1) := dk_45 (dk_at dksL_law_41 13 rfl rfl)
theorem dL_law_1210 : decode cL_law 1210 = .ok (.invokestatic 198, 3) := dk_184 0 198 (dk_at dksL_law_41 14 rfl rfl)
theorem dL_law_1213 : decode cL_law 1213 = .ok (.istore 5, 2) := dk_54 5 (dk_at dksL_law_41 17 rfl rfl)
theorem dL_law_1215 : decode cL_law 1215 = .ok (.aload_n 2, 1) := dk_44 (dk_at dksL_law_41 19 rfl rfl)
theorem dL_law_1216 : decode cL_law 1216 = .ok (.invokevirtual 200, 3) := dk_182 0 200 (dk_at dksL_law_41 20 rfl rfl)
theorem dL_law_1219 : decode cL_law 1219 = .ok (.istore 6, 2) := dk_54 6 (dk_at dksL_law_42 0 rfl rfl)
theorem dL_law_1221 : decode cL_law 1221 = .ok (.aload_n 2, 1) := dk_44 (dk_at dksL_law_42 2 rfl rfl)
theorem dL_law_1222 : decode cL_law 1222 = .ok (.invokevirtual 145, 3) := dk_182 0 145 (dk_at dksL_law_42 3 rfl rfl)
theorem dL_law_1225 : decode cL_law 1225 = .ok (.iload 5, 2) := dk_21 5 (dk_at dksL_law_42 6 rfl rfl)
theorem dL_law_1227 : decode cL_law 1227 = .ok (.if_icmp .eq 5, 3) := dk_159 0 5 (dk_at dksL_law_42 8 rfl rfl)
theorem dL_law_1230 : decode cL_law 1230 = .ok (.iconst 0, 1) := dk_3 (dk_at dksL_law_42 11 rfl rfl)
theorem dL_law_1231 : decode cL_law 1231 = .ok (.ireturn, 1) := dk_172 (dk_at dksL_law_42 12 rfl rfl)
theorem dL_law_1232 : decode cL_law 1232 = .ok (.iload 5, 2) := dk_21 5 (dk_at dksL_law_42 13 rfl rfl)
theorem dL_law_1234 : decode cL_law 1234 = .ok (.ifCond .ne 15, 3) := dk_154 0 15 (dk_at dksL_law_42 15 rfl rfl)
theorem dL_law_1237 : decode cL_law 1237 = .ok (.aload_n 3, 1) := dk_45 (dk_at dksL_law_42 18 rfl rfl)
theorem dL_law_1238 : decode cL_law 1238 = .ok (.iconst 0, 1) := dk_3 (dk_at dksL_law_42 19 rfl rfl)
theorem dL_law_1239 : decode cL_law 1239 = .ok (.laload, 1) := dk_47 (dk_at dksL_law_42 20 rfl rfl)
theorem dL_law_1240 : decode cL_law 1240 = .ok (.iload 6, 2) := dk_21 6 (dk_at dksL_law_42 21 rfl rfl)
theorem dL_law_1242 : decode cL_law 1242 = .ok (.i2l, 1) := dk_133 (dk_at dksL_law_42 23 rfl rfl)
theorem dL_law_1243 : decode cL_law 1243 = .ok (.lcmp, 1) := dk_148 (dk_at dksL_law_43 0 rfl rfl)
theorem dL_law_1244 : decode cL_law 1244 = .ok (.ifCond .eq 5, 3) := dk_153 0 5 (dk_at dksL_law_43 1 rfl rfl)
theorem dL_law_1247 : decode cL_law 1247 = .ok (.iconst 0, 1) := dk_3 (dk_at dksL_law_43 4 rfl rfl)
theorem dL_law_1248 : decode cL_law 1248 = .ok (.ireturn, 1) := dk_172 (dk_at dksL_law_43 5 rfl rfl)
theorem dL_law_1249 : decode cL_law 1249 = .ok (.goto 1790, 3) := dk_167 6 254 (dk_at dksL_law_43 6 rfl rfl)
theorem dL_law_1252 : decode cL_law 1252 = .ok (.aload_n 1, 1) := dk_43 (dk_at dksL_law_43 9 rfl rfl)
theorem dL_law_1253 : decode cL_law 1253 = .ok (.invokevirtual 201, 3) := dk_182 0 201 (dk_at dksL_law_43 10 rfl rfl)
theorem dL_law_1256 : decode cL_law 1256 = .ok (.aload_n 2, 1) := dk_44 (dk_at dksL_law_43 13 rfl rfl)
theorem dL_law_1257 : decode cL_law 1257 = .ok (.invokevirtual 204, 3) := dk_182 0 204 (dk_at dksL_law_43 14 rfl rfl)
theorem dL_law_1260 : decode cL_law 1260 = .ok (.if_icmp .eq 1779, 3) := dk_159 6 243 (dk_at dksL_law_43 17 rfl rfl)
theorem dL_law_1263 : decode cL_law 1263 = .ok (.iconst 0, 1) := dk_3 (dk_at dksL_law_43 20 rfl rfl)
theorem dL_law_1264 : decode cL_law 1264 = .ok (.ireturn, 1) := dk_172 (dk_at dksL_law_43 21 rfl rfl)
theorem dL_law_1265 : decode cL_law 1265 = .ok (.aload_n 1, 1) := dk_43 (dk_at dksL_law_43 22 rfl rfl)
theorem dL_law_1266 : decode cL_law 1266 = .ok (.aload_n 0, 1) := dk_42 (dk_at dksL_law_43 23 rfl rfl)
theorem dL_law_1267 : decode cL_law 1267 = .ok (.iload 4, 2) := dk_21 4 (dk_at dksL_law_44 0 rfl rfl)
theorem dL_law_1269 : decode cL_law 1269 = .ok (.iconst 1, 1) := dk_4 (dk_at dksL_law_44 2 rfl rfl)
theorem dL_law_1270 : decode cL_law 1270 = .ok (.iadd, 1) := dk_96 (dk_at dksL_law_44 3 rfl rfl)
theorem dL_law_1271 : decode cL_law 1271 = .ok (.iaload, 1) := dk_46 (dk_at dksL_law_44 4 rfl rfl)
theorem dL_law_1272 : decode cL_law 1272 = .ok (.aload_n 0, 1) := dk_42 (dk_at dksL_law_44 5 rfl rfl)
theorem dL_law_1273 : decode cL_law 1273 = .ok (.iload 4, 2) := dk_21 4 (dk_at dksL_law_44 6 rfl rfl)
theorem dL_law_1275 : decode cL_law 1275 = .ok (.iconst 2, 1) := dk_5 (dk_at dksL_law_44 8 rfl rfl)
theorem dL_law_1276 : decode cL_law 1276 = .ok (.iadd, 1) := dk_96 (dk_at dksL_law_44 9 rfl rfl)
theorem dL_law_1277 : decode cL_law 1277 = .ok (.iaload, 1) := dk_46 (dk_at dksL_law_44 10 rfl rfl)
theorem dL_law_1278 : decode cL_law 1278 = .ok (.aload_n 3, 1) := dk_45 (dk_at dksL_law_44 11 rfl rfl)
theorem dL_law_1279 : decode cL_law 1279 = .ok (.invokestatic 205, 3) := dk_184 0 205 (dk_at dksL_law_44 12 rfl rfl)
theorem dL_law_1282 : decode cL_law 1282 = .ok (.istore 5, 2) := dk_54 5 (dk_at dksL_law_44 15 rfl rfl)
theorem dL_law_1284 : decode cL_law 1284 = .ok (.aload_n 2, 1) := dk_44 (dk_at dksL_law_44 17 rfl rfl)
theorem dL_law_1285 : decode cL_law 1285 = .ok (.aload_n 0, 1) := dk_42 (dk_at dksL_law_44 18 rfl rfl)
theorem dL_law_1286 : decode cL_law 1286 = .ok (.iload 4, 2) := dk_21 4 (dk_at dksL_law_44 19 rfl rfl)
theorem dL_law_1288 : decode cL_law 1288 = .ok (.iconst 1, 1) := dk_4 (dk_at dksL_law_44 21 rfl rfl)
theorem dL_law_1289 : decode cL_law 1289 = .ok (.iadd, 1) := dk_96 (dk_at dksL_law_44 22 rfl rfl)
theorem dL_law_1290 : decode cL_law 1290 = .ok (.iaload, 1) := dk_46 (dk_at dksL_law_44 23 rfl rfl)
theorem dL_law_1291 : decode cL_law 1291 = .ok (.aload_n 0, 1) := dk_42 (dk_at dksL_law_45 0 rfl rfl)
theorem dL_law_1292 : decode cL_law 1292 = .ok (.iload 4, 2) := dk_21 4 (dk_at dksL_law_45 1 rfl rfl)
theorem dL_law_1294 : decode cL_law 1294 = .ok (.iconst 2, 1) := dk_5 (dk_at dksL_law_45 3 rfl rfl)
theorem dL_law_1295 : decode cL_law 1295 = .ok (.iadd, 1) := dk_96 (dk_at dksL_law_45 4 rfl rfl)
theorem dL_law_1296 : decode cL_law 1296 = .ok (.iaload, 1) := dk_46 (dk_at dksL_law_45 5 rfl rfl)
theorem dL_law_1297 : decode cL_law 1297 = .ok (.invokevirtual 207, 3) := dk_182 0 207 (dk_at dksL_law_45 6 rfl rfl)
theorem dL_law_1300 : decode cL_law 1300 = .ok (.istore 6, 2) := dk_54 6 (dk_at dksL_law_45 9 rfl rfl)
theorem dL_law_1302 : decode cL_law 1302 = .ok (.aload_n 2, 1) := dk_44 (dk_at dksL_law_45 11 rfl rfl)
theorem dL_law_1303 : decode cL_law 1303 = .ok (.invokevirtual 145, 3) := dk_182 0 145 (dk_at dksL_law_45 12 rfl rfl)
theorem dL_law_1306 : decode cL_law 1306 = .ok (.iload 5, 2) := dk_21 5 (dk_at dksL_law_45 15 rfl rfl)
theorem dL_law_1308 : decode cL_law 1308 = .ok (.if_icmp .eq 5, 3) := dk_159 0 5 (dk_at dksL_law_45 17 rfl rfl)
theorem dL_law_1311 : decode cL_law 1311 = .ok (.iconst 0, 1) := dk_3 (dk_at dksL_law_45 20 rfl rfl)
theorem dL_law_1312 : decode cL_law 1312 = .ok (.ireturn, 1) := dk_172 (dk_at dksL_law_45 21 rfl rfl)
theorem dL_law_1313 : decode cL_law 1313 = .ok (.iload 5, 2) := dk_21 5 (dk_at dksL_law_45 22 rfl rfl)
theorem dL_law_1315 : decode cL_law 1315 = .ok (.ifCond .ne 15, 3) := dk_154 0 15 (dk_at dksL_law_46 0 rfl rfl)
theorem dL_law_1318 : decode cL_law 1318 = .ok (.aload_n 3, 1) := dk_45 (dk_at dksL_law_46 3 rfl rfl)
theorem dL_law_1319 : decode cL_law 1319 = .ok (.iconst 0, 1) := dk_3 (dk_at dksL_law_46 4 rfl rfl)
theorem dL_law_1320 : decode cL_law 1320 = .ok (.laload, 1) := dk_47 (dk_at dksL_law_46 5 rfl rfl)
theorem dL_law_1321 : decode cL_law 1321 = .ok (.iload 6, 2) := dk_21 6 (dk_at dksL_law_46 6 rfl rfl)
theorem dL_law_1323 : decode cL_law 1323 = .ok (.i2l, 1) := dk_133 (dk_at dksL_law_46 8 rfl rfl)
theorem dL_law_1324 : decode cL_law 1324 = .ok (.lcmp, 1) := dk_148 (dk_at dksL_law_46 9 rfl rfl)
theorem dL_law_1325 : decode cL_law 1325 = .ok (.ifCond .eq 5, 3) := dk_153 0 5 (dk_at dksL_law_46 10 rfl rfl)
theorem dL_law_1328 : decode cL_law 1328 = .ok (.iconst 0, 1) := dk_3 (dk_at dksL_law_46 13 rfl rfl)
theorem dL_law_1329 : decode cL_law 1329 = .ok (.ireturn, 1) := dk_172 (dk_at dksL_law_46 14 rfl rfl)
theorem dL_law_1330 : decode cL_law 1330 = .ok (.goto 1709, 3) := dk_167 6 173 (dk_at dksL_law_46 15 rfl rfl)
theorem dL_law_1333 : decode cL_law 1333 = .ok (.aload_n 1, 1) := dk_43 (dk_at dksL_law_46 18 rfl rfl)
theorem dL_law_1334 : decode cL_law 1334 = .ok (.aload_n 0, 1) := dk_42 (dk_at dksL_law_46 19 rfl rfl)
theorem dL_law_1335 : decode cL_law 1335 = .ok (.iload 4, 2) := dk_21 4 (dk_at dksL_law_46 20 rfl rfl)
theorem dL_law_1337 : decode cL_law 1337 = .ok (.iconst 1, 1) := dk_4 (dk_at dksL_law_46 22 rfl rfl)
theorem dL_law_1338 : decode cL_law 1338 = .ok (.iadd, 1) := dk_96 (dk_at dksL_law_46 23 rfl rfl)
theorem dL_law_1339 : decode cL_law 1339 = .ok (.iaload, 1) := dk_46 (dk_at dksL_law_47 0 rfl rfl)
theorem dL_law_1340 : decode cL_law 1340 = .ok (.aload_n 0, 1) := dk_42 (dk_at dksL_law_47 1 rfl rfl)
theorem dL_law_1341 : decode cL_law 1341 = .ok (.iload 4, 2) := dk_21 4 (dk_at dksL_law_47 2 rfl rfl)
theorem dL_law_1343 : decode cL_law 1343 = .ok (.iconst 2, 1) := dk_5 (dk_at dksL_law_47 4 rfl rfl)
theorem dL_law_1344 : decode cL_law 1344 = .ok (.iadd, 1) := dk_96 (dk_at dksL_law_47 5 rfl rfl)
theorem dL_law_1345 : decode cL_law 1345 = .ok (.iaload, 1) := dk_46 (dk_at dksL_law_47 6 rfl rfl)
theorem dL_law_1346 : decode cL_law 1346 = .ok (.aload_n 3, 1) := dk_45 (dk_at dksL_law_47 7 rfl rfl)
theorem dL_law_1347 : decode cL_law 1347 = .ok (.invokestatic 208, 3) := dk_184 0 208 (dk_at dksL_law_47 8 rfl rfl)
theorem dL_law_1350 : decode cL_law 1350 = .ok (.istore 5, 2) := dk_54 5 (dk_at dksL_law_47 11 rfl rfl)
theorem dL_law_1352 : decode cL_law 1352 = .ok (.aload_n 2, 1) := dk_44 (dk_at dksL_law_47 13 rfl rfl)
theorem dL_law_1353 : decode cL_law 1353 = .ok (.aload_n 0, 1) := dk_42 (dk_at dksL_law_47 14 rfl rfl)
theorem dL_law_1354 : decode cL_law 1354 = .ok (.iload 4, 2) := dk_21 4 (dk_at dksL_law_47 15 rfl rfl)
theorem dL_law_1356 : decode cL_law 1356 = .ok (.iconst 1, 1) := dk_4 (dk_at dksL_law_47 17 rfl rfl)
theorem dL_law_1357 : decode cL_law 1357 = .ok (.iadd, 1) := dk_96 (dk_at dksL_law_47 18 rfl rfl)
theorem dL_law_1358 : decode cL_law 1358 = .ok (.iaload, 1) := dk_46 (dk_at dksL_law_47 19 rfl rfl)
theorem dL_law_1359 : decode cL_law 1359 = .ok (.aload_n 0, 1) := dk_42 (dk_at dksL_law_47 20 rfl rfl)
theorem dL_law_1360 : decode cL_law 1360 = .ok (.iload 4, 2) := dk_21 4 (dk_at dksL_law_47 21 rfl rfl)
theorem dL_law_1362 : decode cL_law 1362 = .ok (.iconst 2, 1) := dk_5 (dk_at dksL_law_47 23 rfl rfl)
theorem dL_law_1363 : decode cL_law 1363 = .ok (.iadd, 1) := dk_96 (dk_at dksL_law_48 0 rfl rfl)
theorem dL_law_1364 : decode cL_law 1364 = .ok (.iaload, 1) := dk_46 (dk_at dksL_law_48 1 rfl rfl)
theorem dL_law_1365 : decode cL_law 1365 = .ok (.invokevirtual 210, 3) := dk_182 0 210 (dk_at dksL_law_48 2 rfl rfl)
theorem dL_law_1368 : decode cL_law 1368 = .ok (.istore 6, 2) := dk_54 6 (dk_at dksL_law_48 5 rfl rfl)
theorem dL_law_1370 : decode cL_law 1370 = .ok (.aload_n 2, 1) := dk_44 (dk_at dksL_law_48 7 rfl rfl)
theorem dL_law_1371 : decode cL_law 1371 = .ok (.invokevirtual 145, 3) := dk_182 0 145 (dk_at dksL_law_48 8 rfl rfl)
theorem dL_law_1374 : decode cL_law 1374 = .ok (.iload 5, 2) := dk_21 5 (dk_at dksL_law_48 11 rfl rfl)
theorem dL_law_1376 : decode cL_law 1376 = .ok (.if_icmp .eq 5, 3) := dk_159 0 5 (dk_at dksL_law_48 13 rfl rfl)
theorem dL_law_1379 : decode cL_law 1379 = .ok (.iconst 0, 1) := dk_3 (dk_at dksL_law_48 16 rfl rfl)
theorem dL_law_1380 : decode cL_law 1380 = .ok (.ireturn, 1) := dk_172 (dk_at dksL_law_48 17 rfl rfl)
theorem dL_law_1381 : decode cL_law 1381 = .ok (.iload 5, 2) := dk_21 5 (dk_at dksL_law_48 18 rfl rfl)
theorem dL_law_1383 : decode cL_law 1383 = .ok (.ifCond .ne 15, 3) := dk_154 0 15 (dk_at dksL_law_48 20 rfl rfl)
theorem dL_law_1386 : decode cL_law 1386 = .ok (.aload_n 3, 1) := dk_45 (dk_at dksL_law_48 23 rfl rfl)
theorem dL_law_1387 : decode cL_law 1387 = .ok (.iconst 0, 1) := dk_3 (dk_at dksL_law_49 0 rfl rfl)
theorem dL_law_1388 : decode cL_law 1388 = .ok (.laload, 1) := dk_47 (dk_at dksL_law_49 1 rfl rfl)
theorem dL_law_1389 : decode cL_law 1389 = .ok (.iload 6, 2) := dk_21 6 (dk_at dksL_law_49 2 rfl rfl)
theorem dL_law_1391 : decode cL_law 1391 = .ok (.i2l, 1) := dk_133 (dk_at dksL_law_49 4 rfl rfl)
theorem dL_law_1392 : decode cL_law 1392 = .ok (.lcmp, 1) := dk_148 (dk_at dksL_law_49 5 rfl rfl)
theorem dL_law_1393 : decode cL_law 1393 = .ok (.ifCond .eq 5, 3) := dk_153 0 5 (dk_at dksL_law_49 6 rfl rfl)
theorem dL_law_1396 : decode cL_law 1396 = .ok (.iconst 0, 1) := dk_3 (dk_at dksL_law_49 9 rfl rfl)
theorem dL_law_1397 : decode cL_law 1397 = .ok (.ireturn, 1) := dk_172 (dk_at dksL_law_49 10 rfl rfl)
theorem dL_law_1398 : decode cL_law 1398 = .ok (.goto 1641, 3) := dk_167 6 105 (dk_at dksL_law_49 11 rfl rfl)
theorem dL_law_1401 : decode cL_law 1401 = .ok (.aload_n 1, 1) := dk_43 (dk_at dksL_law_49 14 rfl rfl)
theorem dL_law_1402 : decode cL_law 1402 = .ok (.aload_n 3, 1) := dk_45 (dk_at dksL_law_49 15 rfl rfl)
theorem dL_law_1403 : decode cL_law 1403 = .ok (.invokestatic 211, 3) := dk_184 0 211 (dk_at dksL_law_49 16 rfl rfl)
theorem dL_law_1406 : decode cL_law 1406 = .ok (.istore 5, 2) := dk_54 5 (dk_at dksL_law_49 19 rfl rfl)
theorem dL_law_1408 : decode cL_law 1408 = .ok (.aload_n 2, 1) := dk_44 (dk_at dksL_law_49 21 rfl rfl)
theorem dL_law_1409 : decode cL_law 1409 = .ok (.invokevirtual 213, 3) := dk_182 0 213 (dk_at dksL_law_50 0 rfl rfl)
theorem dL_law_1412 : decode cL_law 1412 = .ok (.istore 6, 2) := dk_54 6 (dk_at dksL_law_50 3 rfl rfl)
theorem dL_law_1414 : decode cL_law 1414 = .ok (.aload_n 2, 1) := dk_44 (dk_at dksL_law_50 5 rfl rfl)
theorem dL_law_1415 : decode cL_law 1415 = .ok (.invokevirtual 145, 3) := dk_182 0 145 (dk_at dksL_law_50 6 rfl rfl)
theorem dL_law_1418 : decode cL_law 1418 = .ok (.iload 5, 2) := dk_21 5 (dk_at dksL_law_50 9 rfl rfl)
theorem dL_law_1420 : decode cL_law 1420 = .ok (.if_icmp .eq 5, 3) := dk_159 0 5 (dk_at dksL_law_50 11 rfl rfl)
theorem dL_law_1423 : decode cL_law 1423 = .ok (.iconst 0, 1) := dk_3 (dk_at dksL_law_50 14 rfl rfl)
theorem dL_law_1424 : decode cL_law 1424 = .ok (.ireturn, 1) := dk_172 (dk_at dksL_law_50 15 rfl rfl)
theorem dL_law_1425 : decode cL_law 1425 = .ok (.iload 5, 2) := dk_21 5 (dk_at dksL_law_50 16 rfl rfl)
theorem dL_law_1427 : decode cL_law 1427 = .ok (.ifCond .ne 15, 3) := dk_154 0 15 (dk_at dksL_law_50 18 rfl rfl)
theorem dL_law_1430 : decode cL_law 1430 = .ok (.aload_n 3, 1) := dk_45 (dk_at dksL_law_50 21 rfl rfl)
theorem dL_law_1431 : decode cL_law 1431 = .ok (.iconst 0, 1) := dk_3 (dk_at dksL_law_50 22 rfl rfl)
theorem dL_law_1432 : decode cL_law 1432 = .ok (.laload, 1) := dk_47 (dk_at dksL_law_50 23 rfl rfl)
theorem dL_law_1433 : decode cL_law 1433 = .ok (.iload 6, 2) := dk_21 6 (dk_at dksL_law_51 0 rfl rfl)
theorem dL_law_1435 : decode cL_law 1435 = .ok (.i2l, 1) := dk_133 (dk_at dksL_law_51 2 rfl rfl)
theorem dL_law_1436 : decode cL_law 1436 = .ok (.lcmp, 1) := dk_148 (dk_at dksL_law_51 3 rfl rfl)
theorem dL_law_1437 : decode cL_law 1437 = .ok (.ifCond .eq 5, 3) := dk_153 0 5 (dk_at dksL_law_51 4 rfl rfl)
theorem dL_law_1440 : decode cL_law 1440 = .ok (.iconst 0, 1) := dk_3 (dk_at dksL_law_51 7 rfl rfl)
theorem dL_law_1441 : decode cL_law 1441 = .ok (.ireturn, 1) := dk_172 (dk_at dksL_law_51 8 rfl rfl)
theorem dL_law_1442 : decode cL_law 1442 = .ok (.goto 1597, 3) := dk_167 6 61 (dk_at dksL_law_51 9 rfl rfl)
theorem dL_law_1445 : decode cL_law 1445 = .ok (.aload_n 1, 1) := dk_43 (dk_at dksL_law_51 12 rfl rfl)
theorem dL_law_1446 : decode cL_law 1446 = .ok (.aload_n 3, 1) := dk_45 (dk_at dksL_law_51 13 rfl rfl)
theorem dL_law_1447 : decode cL_law 1447 = .ok (.invokestatic 214, 3) := dk_184 0 214 (dk_at dksL_law_51 14 rfl rfl)
theorem dL_law_1450 : decode cL_law 1450 = .ok (.istore 5, 2) := dk_54 5 (dk_at dksL_law_51 17 rfl rfl)
theorem dL_law_1452 : decode cL_law 1452 = .ok (.aload_n 2, 1) := dk_44 (dk_at dksL_law_51 19 rfl rfl)
theorem dL_law_1453 : decode cL_law 1453 = .ok (.invokevirtual 216, 3) := dk_182 0 216 (dk_at dksL_law_51 20 rfl rfl)
theorem dL_law_1456 : decode cL_law 1456 = .ok (.istore 6, 2) := dk_54 6 (dk_at dksL_law_52 0 rfl rfl)
theorem dL_law_1458 : decode cL_law 1458 = .ok (.aload_n 2, 1) := dk_44 (dk_at dksL_law_52 2 rfl rfl)
theorem dL_law_1459 : decode cL_law 1459 = .ok (.invokevirtual 145, 3) := dk_182 0 145 (dk_at dksL_law_52 3 rfl rfl)
theorem dL_law_1462 : decode cL_law 1462 = .ok (.iload 5, 2) := dk_21 5 (dk_at dksL_law_52 6 rfl rfl)
theorem dL_law_1464 : decode cL_law 1464 = .ok (.if_icmp .eq 5, 3) := dk_159 0 5 (dk_at dksL_law_52 8 rfl rfl)
theorem dL_law_1467 : decode cL_law 1467 = .ok (.iconst 0, 1) := dk_3 (dk_at dksL_law_52 11 rfl rfl)
theorem dL_law_1468 : decode cL_law 1468 = .ok (.ireturn, 1) := dk_172 (dk_at dksL_law_52 12 rfl rfl)
theorem dL_law_1469 : decode cL_law 1469 = .ok (.iload 5, 2) := dk_21 5 (dk_at dksL_law_52 13 rfl rfl)
theorem dL_law_1471 : decode cL_law 1471 = .ok (.ifCond .ne 15, 3) := dk_154 0 15 (dk_at dksL_law_52 15 rfl rfl)
theorem dL_law_1474 : decode cL_law 1474 = .ok (.aload_n 3, 1) := dk_45 (dk_at dksL_law_52 18 rfl rfl)
theorem dL_law_1475 : decode cL_law 1475 = .ok (.iconst 0, 1) := dk_3 (dk_at dksL_law_52 19 rfl rfl)
theorem dL_law_1476 : decode cL_law 1476 = .ok (.laload, 1) := dk_47 (dk_at dksL_law_52 20 rfl rfl)
theorem dL_law_1477 : decode cL_law 1477 = .ok (.iload 6, 2) := dk_21 6 (dk_at dksL_law_52 21 rfl rfl)
theorem dL_law_1479 : decode cL_law 1479 = .ok (.i2l, 1) := dk_133 (dk_at dksL_law_52 23 rfl rfl)
theorem dL_law_1480 : decode cL_law 1480 = .ok (.lcmp, 1) := dk_148 (dk_at dksL_law_53 0 rfl rfl)
theorem dL_law_1481 : decode cL_law 1481 = .ok (.ifCond .eq 5, 3) := dk_153 0 5 (dk_at dksL_law_53 1 rfl rfl)
theorem dL_law_1484 : decode cL_law 1484 = .ok (.iconst 0, 1) := dk_3 (dk_at dksL_law_53 4 rfl rfl)
theorem dL_law_1485 : decode cL_law 1485 = .ok (.ireturn, 1) := dk_172 (dk_at dksL_law_53 5 rfl rfl)
theorem dL_law_1486 : decode cL_law 1486 = .ok (.goto 1553, 3) := dk_167 6 17 (dk_at dksL_law_53 6 rfl rfl)
theorem dL_law_1489 : decode cL_law 1489 = .ok (.aload_n 1, 1) := dk_43 (dk_at dksL_law_53 9 rfl rfl)
theorem dL_law_1490 : decode cL_law 1490 = .ok (.invokevirtual 217, 3) := dk_182 0 217 (dk_at dksL_law_53 10 rfl rfl)
theorem dL_law_1493 : decode cL_law 1493 = .ok (.aload_n 2, 1) := dk_44 (dk_at dksL_law_53 13 rfl rfl)
theorem dL_law_1494 : decode cL_law 1494 = .ok (.invokevirtual 220, 3) := dk_182 0 220 (dk_at dksL_law_53 14 rfl rfl)
theorem dL_law_1497 : decode cL_law 1497 = .ok (.if_icmp .eq 1542, 3) := dk_159 6 6 (dk_at dksL_law_53 17 rfl rfl)
theorem dL_law_1500 : decode cL_law 1500 = .ok (.iconst 0, 1) := dk_3 (dk_at dksL_law_53 20 rfl rfl)
theorem dL_law_1501 : decode cL_law 1501 = .ok (.ireturn, 1) := dk_172 (dk_at dksL_law_53 21 rfl rfl)
theorem dL_law_1502 : decode cL_law 1502 = .ok (.aload_n 1, 1) := dk_43 (dk_at dksL_law_53 22 rfl rfl)
theorem dL_law_1503 : decode cL_law 1503 = .ok (.invokevirtual 221, 3) := dk_182 0 221 (dk_at dksL_law_54 0 rfl rfl)
theorem dL_law_1506 : decode cL_law 1506 = .ok (.aload_n 2, 1) := dk_44 (dk_at dksL_law_54 3 rfl rfl)
theorem dL_law_1507 : decode cL_law 1507 = .ok (.invokevirtual 224, 3) := dk_182 0 224 (dk_at dksL_law_54 4 rfl rfl)
theorem dL_law_1510 : decode cL_law 1510 = .ok (.if_icmp .eq 1529, 3) := dk_159 5 249 (dk_at dksL_law_54 7 rfl rfl)
theorem dL_law_1513 : decode cL_law 1513 = .ok (.iconst 0, 1) := dk_3 (dk_at dksL_law_54 10 rfl rfl)
theorem dL_law_1514 : decode cL_law 1514 = .ok (.ireturn, 1) := dk_172 (dk_at dksL_law_54 11 rfl rfl)
theorem dL_law_1515 : decode cL_law 1515 = .ok (.aload_n 1, 1) := dk_43 (dk_at dksL_law_54 12 rfl rfl)
theorem dL_law_1516 : decode cL_law 1516 = .ok (.invokevirtual 225, 3) := dk_182 0 225 (dk_at dksL_law_54 13 rfl rfl)
theorem dL_law_1519 : decode cL_law 1519 = .ok (.aload_n 2, 1) := dk_44 (dk_at dksL_law_54 16 rfl rfl)
theorem dL_law_1520 : decode cL_law 1520 = .ok (.invokevirtual 228, 3) := dk_182 0 228 (dk_at dksL_law_54 17 rfl rfl)
theorem dL_law_1523 : decode cL_law 1523 = .ok (.if_icmp .eq 1516, 3) := dk_159 5 236 (dk_at dksL_law_54 20 rfl rfl)
theorem dL_law_1526 : decode cL_law 1526 = .ok (.iconst 0, 1) := dk_3 (dk_at dksL_law_54 23 rfl rfl)
theorem dL_law_1527 : decode cL_law 1527 = .ok (.ireturn, 1) := dk_172 (dk_at dksL_law_55 0 rfl rfl)
theorem dL_law_1528 : decode cL_law 1528 = .ok (.aload_n 1, 1) := dk_43 (dk_at dksL_law_55 1 rfl rfl)
theorem dL_law_1529 : decode cL_law 1529 = .ok (.aload_n 0, 1) := dk_42 (dk_at dksL_law_55 2 rfl rfl)
theorem dL_law_1530 : decode cL_law 1530 = .ok (.iload 4, 2) := dk_21 4 (dk_at dksL_law_55 3 rfl rfl)
theorem dL_law_1532 : decode cL_law 1532 = .ok (.iconst 1, 1) := dk_4 (dk_at dksL_law_55 5 rfl rfl)
theorem dL_law_1533 : decode cL_law 1533 = .ok (.iadd, 1) := dk_96 (dk_at dksL_law_55 6 rfl rfl)
theorem dL_law_1534 : decode cL_law 1534 = .ok (.iaload, 1) := dk_46 (dk_at dksL_law_55 7 rfl rfl)
theorem dL_law_1535 : decode cL_law 1535 = .ok (.aload_n 3, 1) := dk_45 (dk_at dksL_law_55 8 rfl rfl)
theorem dL_law_1536 : decode cL_law 1536 = .ok (.invokestatic 229, 3) := dk_184 0 229 (dk_at dksL_law_55 9 rfl rfl)
theorem dL_law_1539 : decode cL_law 1539 = .ok (.istore 5, 2) := dk_54 5 (dk_at dksL_law_55 12 rfl rfl)
theorem dL_law_1541 : decode cL_law 1541 = .ok (.aload_n 2, 1) := dk_44 (dk_at dksL_law_55 14 rfl rfl)
theorem dL_law_1542 : decode cL_law 1542 = .ok (.aload_n 0, 1) := dk_42 (dk_at dksL_law_55 15 rfl rfl)
theorem dL_law_1543 : decode cL_law 1543 = .ok (.iload 4, 2) := dk_21 4 (dk_at dksL_law_55 16 rfl rfl)
theorem dL_law_1545 : decode cL_law 1545 = .ok (.iconst 1, 1) := dk_4 (dk_at dksL_law_55 18 rfl rfl)
theorem dL_law_1546 : decode cL_law 1546 = .ok (.iadd, 1) := dk_96 (dk_at dksL_law_55 19 rfl rfl)
theorem dL_law_1547 : decode cL_law 1547 = .ok (.iaload, 1) := dk_46 (dk_at dksL_law_55 20 rfl rfl)
theorem dL_law_1548 : decode cL_law 1548 = .ok (.invokevirtual 231, 3) := dk_182 0 231 (dk_at dksL_law_55 21 rfl rfl)
theorem dL_law_1551 : decode cL_law 1551 = .ok (.istore 6, 2) := dk_54 6 (dk_at dksL_law_56 0 rfl rfl)
theorem dL_law_1553 : decode cL_law 1553 = .ok (.aload_n 2, 1) := dk_44 (dk_at dksL_law_56 2 rfl rfl)
theorem dL_law_1554 : decode cL_law 1554 = .ok (.invokevirtual 145, 3) := dk_182 0 145 (dk_at dksL_law_56 3 rfl rfl)
theorem dL_law_1557 : decode cL_law 1557 = .ok (.iload 5, 2) := dk_21 5 (dk_at dksL_law_56 6 rfl rfl)
theorem dL_law_1559 : decode cL_law 1559 = .ok (.if_icmp .eq 5, 3) := dk_159 0 5 (dk_at dksL_law_56 8 rfl rfl)
theorem dL_law_1562 : decode cL_law 1562 = .ok (.iconst 0, 1) := dk_3 (dk_at dksL_law_56 11 rfl rfl)
theorem dL_law_1563 : decode cL_law 1563 = .ok (.ireturn, 1) := dk_172 (dk_at dksL_law_56 12 rfl rfl)
theorem dL_law_1564 : decode cL_law 1564 = .ok (.iload 5, 2) := dk_21 5 (dk_at dksL_law_56 13 rfl rfl)
theorem dL_law_1566 : decode cL_law 1566 = .ok (.ifCond .ne 22, 3) := dk_154 0 22 (dk_at dksL_law_56 15 rfl rfl)
theorem dL_law_1569 : decode cL_law 1569 = .ok (.aload_n 3, 1) := dk_45 (dk_at dksL_law_56 18 rfl rfl)
theorem dL_law_1570 : decode cL_law 1570 = .ok (.iconst 0, 1) := dk_3 (dk_at dksL_law_56 19 rfl rfl)
theorem dL_law_1571 : decode cL_law 1571 = .ok (.laload, 1) := dk_47 (dk_at dksL_law_56 20 rfl rfl)
theorem dL_law_1572 : decode cL_law 1572 = .ok (.iload 6, 2) := dk_21 6 (dk_at dksL_law_56 21 rfl rfl)
theorem dL_law_1574 : decode cL_law 1574 = .ok (.ifCond .eq 7, 3) := dk_153 0 7 (dk_at dksL_law_57 0 rfl rfl)
theorem dL_law_1577 : decode cL_law 1577 = .ok (.lconst 1, 1) := dk_10 (dk_at dksL_law_57 3 rfl rfl)
theorem dL_law_1578 : decode cL_law 1578 = .ok (.goto 4, 3) := dk_167 0 4 (dk_at dksL_law_57 4 rfl rfl)
theorem dL_law_1581 : decode cL_law 1581 = .ok (.lconst 0, 1) := dk_9 (dk_at dksL_law_57 7 rfl rfl)
theorem dL_law_1582 : decode cL_law 1582 = .ok (.lcmp, 1) := dk_148 (dk_at dksL_law_57 8 rfl rfl)
theorem dL_law_1583 : decode cL_law 1583 = .ok (.ifCond .eq 5, 3) := dk_153 0 5 (dk_at dksL_law_57 9 rfl rfl)
theorem dL_law_1586 : decode cL_law 1586 = .ok (.iconst 0, 1) := dk_3 (dk_at dksL_law_57 12 rfl rfl)
theorem dL_law_1587 : decode cL_law 1587 = .ok (.ireturn, 1) := dk_172 (dk_at dksL_law_57 13 rfl rfl)
theorem dL_law_1588 : decode cL_law 1588 = .ok (.goto 1451, 3) := dk_167 5 171 (dk_at dksL_law_57 14 rfl rfl)
theorem dL_law_1591 : decode cL_law 1591 = .ok (.aload_n 1, 1) := dk_43 (dk_at dksL_law_57 17 rfl rfl)
theorem dL_law_1592 : decode cL_law 1592 = .ok (.aload_n 0, 1) := dk_42 (dk_at dksL_law_57 18 rfl rfl)
theorem dL_law_1593 : decode cL_law 1593 = .ok (.iload 4, 2) := dk_21 4 (dk_at dksL_law_57 19 rfl rfl)
theorem dL_law_1595 : decode cL_law 1595 = .ok (.iconst 1, 1) := dk_4 (dk_at dksL_law_57 21 rfl rfl)
theorem dL_law_1596 : decode cL_law 1596 = .ok (.iadd, 1) := dk_96 (dk_at dksL_law_57 22 rfl rfl)
theorem dL_law_1597 : decode cL_law 1597 = .ok (.iaload, 1) := dk_46 (dk_at dksL_law_57 23 rfl rfl)
theorem dL_law_1598 : decode cL_law 1598 = .ok (.aload_n 3, 1) := dk_45 (dk_at dksL_law_58 0 rfl rfl)
theorem dL_law_1599 : decode cL_law 1599 = .ok (.invokestatic 232, 3) := dk_184 0 232 (dk_at dksL_law_58 1 rfl rfl)
theorem dL_law_1602 : decode cL_law 1602 = .ok (.istore 5, 2) := dk_54 5 (dk_at dksL_law_58 4 rfl rfl)
theorem dL_law_1604 : decode cL_law 1604 = .ok (.aload_n 2, 1) := dk_44 (dk_at dksL_law_58 6 rfl rfl)
theorem dL_law_1605 : decode cL_law 1605 = .ok (.aload_n 0, 1) := dk_42 (dk_at dksL_law_58 7 rfl rfl)
theorem dL_law_1606 : decode cL_law 1606 = .ok (.iload 4, 2) := dk_21 4 (dk_at dksL_law_58 8 rfl rfl)
theorem dL_law_1608 : decode cL_law 1608 = .ok (.iconst 1, 1) := dk_4 (dk_at dksL_law_58 10 rfl rfl)
theorem dL_law_1609 : decode cL_law 1609 = .ok (.iadd, 1) := dk_96 (dk_at dksL_law_58 11 rfl rfl)
theorem dL_law_1610 : decode cL_law 1610 = .ok (.iaload, 1) := dk_46 (dk_at dksL_law_58 12 rfl rfl)
theorem dL_law_1611 : decode cL_law 1611 = .ok (.invokevirtual 234, 3) := dk_182 0 234 (dk_at dksL_law_58 13 rfl rfl)
theorem dL_law_1614 : decode cL_law 1614 = .ok (.istore 6, 2) := dk_54 6 (dk_at dksL_law_58 16 rfl rfl)
theorem dL_law_1616 : decode cL_law 1616 = .ok (.aload_n 2, 1) := dk_44 (dk_at dksL_law_58 18 rfl rfl)
theorem dL_law_1617 : decode cL_law 1617 = .ok (.invokevirtual 145, 3) := dk_182 0 145 (dk_at dksL_law_58 19 rfl rfl)
theorem dL_law_1620 : decode cL_law 1620 = .ok (.iload 5, 2) := dk_21 5 (dk_at dksL_law_58 22 rfl rfl)
theorem dL_law_1622 : decode cL_law 1622 = .ok (.if_icmp .eq 5, 3) := dk_159 0 5 (dk_at dksL_law_59 0 rfl rfl)
theorem dL_law_1625 : decode cL_law 1625 = .ok (.iconst 0, 1) := dk_3 (dk_at dksL_law_59 3 rfl rfl)
theorem dL_law_1626 : decode cL_law 1626 = .ok (.ireturn, 1) := dk_172 (dk_at dksL_law_59 4 rfl rfl)
theorem dL_law_1627 : decode cL_law 1627 = .ok (.iload 5, 2) := dk_21 5 (dk_at dksL_law_59 5 rfl rfl)
theorem dL_law_1629 : decode cL_law 1629 = .ok (.ifCond .ne 15, 3) := dk_154 0 15 (dk_at dksL_law_59 7 rfl rfl)
theorem dL_law_1632 : decode cL_law 1632 = .ok (.aload_n 3, 1) := dk_45 (dk_at dksL_law_59 10 rfl rfl)
theorem dL_law_1633 : decode cL_law 1633 = .ok (.iconst 0, 1) := dk_3 (dk_at dksL_law_59 11 rfl rfl)
theorem dL_law_1634 : decode cL_law 1634 = .ok (.laload, 1) := dk_47 (dk_at dksL_law_59 12 rfl rfl)
theorem dL_law_1635 : decode cL_law 1635 = .ok (.iload 6, 2) := dk_21 6 (dk_at dksL_law_59 13 rfl rfl)
theorem dL_law_1637 : decode cL_law 1637 = .ok (.i2l, 1) := dk_133 (dk_at dksL_law_59 15 rfl rfl)
theorem dL_law_1638 : decode cL_law 1638 = .ok (.lcmp, 1) := dk_148 (dk_at dksL_law_59 16 rfl rfl)
theorem dL_law_1639 : decode cL_law 1639 = .ok (.ifCond .eq 5, 3) := dk_153 0 5 (dk_at dksL_law_59 17 rfl rfl)
theorem dL_law_1642 : decode cL_law 1642 = .ok (.iconst 0, 1) := dk_3 (dk_at dksL_law_59 20 rfl rfl)
theorem dL_law_1643 : decode cL_law 1643 = .ok (.ireturn, 1) := dk_172 (dk_at dksL_law_59 21 rfl rfl)
theorem dL_law_1644 : decode cL_law 1644 = .ok (.goto 1395, 3) := dk_167 5 115 (dk_at dksL_law_60 0 rfl rfl)
theorem dL_law_1647 : decode cL_law 1647 = .ok (.aload_n 1, 1) := dk_43 (dk_at dksL_law_60 3 rfl rfl)
theorem dL_law_1648 : decode cL_law 1648 = .ok (.aload_n 0, 1) := dk_42 (dk_at dksL_law_60 4 rfl rfl)
theorem dL_law_1649 : decode cL_law 1649 = .ok (.iload 4, 2) := dk_21 4 (dk_at dksL_law_60 5 rfl rfl)
theorem dL_law_1651 : decode cL_law 1651 = .ok (.iconst 1, 1) := dk_4 (dk_at dksL_law_60 7 rfl rfl)
theorem dL_law_1652 : decode cL_law 1652 = .ok (.iadd, 1) := dk_96 (dk_at dksL_law_60 8 rfl rfl)
theorem dL_law_1653 : decode cL_law 1653 = .ok (.iaload, 1) := dk_46 (dk_at dksL_law_60 9 rfl rfl)
theorem dL_law_1654 : decode cL_law 1654 = .ok (.aload_n 3, 1) := dk_45 (dk_at dksL_law_60 10 rfl rfl)
theorem dL_law_1655 : decode cL_law 1655 = .ok (.invokestatic 235, 3) := dk_184 0 235 (dk_at dksL_law_60 11 rfl rfl)
theorem dL_law_1658 : decode cL_law 1658 = .ok (.istore 5, 2) := dk_54 5 (dk_at dksL_law_60 14 rfl rfl)
theorem dL_law_1660 : decode cL_law 1660 = .ok (.aload_n 2, 1) := dk_44 (dk_at dksL_law_60 16 rfl rfl)
theorem dL_law_1661 : decode cL_law 1661 = .ok (.aload_n 0, 1) := dk_42 (dk_at dksL_law_60 17 rfl rfl)
theorem dL_law_1662 : decode cL_law 1662 = .ok (.iload 4, 2) := dk_21 4 (dk_at dksL_law_60 18 rfl rfl)
theorem dL_law_1664 : decode cL_law 1664 = .ok (.iconst 1, 1) := dk_4 (dk_at dksL_law_60 20 rfl rfl)
theorem dL_law_1665 : decode cL_law 1665 = .ok (.iadd, 1) := dk_96 (dk_at dksL_law_60 21 rfl rfl)
theorem dL_law_1666 : decode cL_law 1666 = .ok (.iaload, 1) := dk_46 (dk_at dksL_law_60 22 rfl rfl)
theorem dL_law_1667 : decode cL_law 1667 = .ok (.invokevirtual 237, 3) := dk_182 0 237 (dk_at dksL_law_61 0 rfl rfl)
theorem dL_law_1670 : decode cL_law 1670 = .ok (.istore 6, 2) := dk_54 6 (dk_at dksL_law_61 3 rfl rfl)
theorem dL_law_1672 : decode cL_law 1672 = .ok (.aload_n 2, 1) := dk_44 (dk_at dksL_law_61 5 rfl rfl)
theorem dL_law_1673 : decode cL_law 1673 = .ok (.invokevirtual 145, 3) := dk_182 0 145 (dk_at dksL_law_61 6 rfl rfl)
theorem dL_law_1676 : decode cL_law 1676 = .ok (.iload 5, 2) := dk_21 5 (dk_at dksL_law_61 9 rfl rfl)
theorem dL_law_1678 : decode cL_law 1678 = .ok (.if_icmp .eq 5, 3) := dk_159 0 5 (dk_at dksL_law_61 11 rfl rfl)
theorem dL_law_1681 : decode cL_law 1681 = .ok (.iconst 0, 1) := dk_3 (dk_at dksL_law_61 14 rfl rfl)
theorem dL_law_1682 : decode cL_law 1682 = .ok (.ireturn, 1) := dk_172 (dk_at dksL_law_61 15 rfl rfl)
theorem dL_law_1683 : decode cL_law 1683 = .ok (.iload 5, 2) := dk_21 5 (dk_at dksL_law_61 16 rfl rfl)
theorem dL_law_1685 : decode cL_law 1685 = .ok (.ifCond .ne 15, 3) := dk_154 0 15 (dk_at dksL_law_61 18 rfl rfl)
theorem dL_law_1688 : decode cL_law 1688 = .ok (.aload_n 3, 1) := dk_45 (dk_at dksL_law_61 21 rfl rfl)
theorem dL_law_1689 : decode cL_law 1689 = .ok (.iconst 0, 1) := dk_3 (dk_at dksL_law_61 22 rfl rfl)
theorem dL_law_1690 : decode cL_law 1690 = .ok (.laload, 1) := dk_47 (dk_at dksL_law_61 23 rfl rfl)
theorem dL_law_1691 : decode cL_law 1691 = .ok (.iload 6, 2) := dk_21 6 (dk_at dksL_law_62 0 rfl rfl)
theorem dL_law_1693 : decode cL_law 1693 = .ok (.i2l, 1) := dk_133 (dk_at dksL_law_62 2 rfl rfl)
theorem dL_law_1694 : decode cL_law 1694 = .ok (.lcmp, 1) := dk_148 (dk_at dksL_law_62 3 rfl rfl)
theorem dL_law_1695 : decode cL_law 1695 = .ok (.ifCond .eq 5, 3) := dk_153 0 5 (dk_at dksL_law_62 4 rfl rfl)
theorem dL_law_1698 : decode cL_law 1698 = .ok (.iconst 0, 1) := dk_3 (dk_at dksL_law_62 7 rfl rfl)
theorem dL_law_1699 : decode cL_law 1699 = .ok (.ireturn, 1) := dk_172 (dk_at dksL_law_62 8 rfl rfl)
theorem dL_law_1700 : decode cL_law 1700 = .ok (.goto 1339, 3) := dk_167 5 59 (dk_at dksL_law_62 9 rfl rfl)
theorem dL_law_1703 : decode cL_law 1703 = .ok (.aload_n 1, 1) := dk_43 (dk_at dksL_law_62 12 rfl rfl)
theorem dL_law_1704 : decode cL_law 1704 = .ok (.aload_n 0, 1) := dk_42 (dk_at dksL_law_62 13 rfl rfl)
theorem dL_law_1705 : decode cL_law 1705 = .ok (.iload 4, 2) := dk_21 4 (dk_at dksL_law_62 14 rfl rfl)
theorem dL_law_1707 : decode cL_law 1707 = .ok (.iconst 1, 1) := dk_4 (dk_at dksL_law_62 16 rfl rfl)
theorem dL_law_1708 : decode cL_law 1708 = .ok (.iadd, 1) := dk_96 (dk_at dksL_law_62 17 rfl rfl)
theorem dL_law_1709 : decode cL_law 1709 = .ok (.iaload, 1) := dk_46 (dk_at dksL_law_62 18 rfl rfl)
theorem dL_law_1710 : decode cL_law 1710 = .ok (.aload_n 3, 1) := dk_45 (dk_at dksL_law_62 19 rfl rfl)
theorem dL_law_1711 : decode cL_law 1711 = .ok (.invokestatic 238, 3) := dk_184 0 238 (dk_at dksL_law_62 20 rfl rfl)
theorem dL_law_1714 : decode cL_law 1714 = .ok (.istore 5, 2) := dk_54 5 (dk_at dksL_law_63 0 rfl rfl)
theorem dL_law_1716 : decode cL_law 1716 = .ok (.aload_n 2, 1) := dk_44 (dk_at dksL_law_63 2 rfl rfl)
theorem dL_law_1717 : decode cL_law 1717 = .ok (.aload_n 0, 1) := dk_42 (dk_at dksL_law_63 3 rfl rfl)
theorem dL_law_1718 : decode cL_law 1718 = .ok (.iload 4, 2) := dk_21 4 (dk_at dksL_law_63 4 rfl rfl)
theorem dL_law_1720 : decode cL_law 1720 = .ok (.iconst 1, 1) := dk_4 (dk_at dksL_law_63 6 rfl rfl)
theorem dL_law_1721 : decode cL_law 1721 = .ok (.iadd, 1) := dk_96 (dk_at dksL_law_63 7 rfl rfl)
theorem dL_law_1722 : decode cL_law 1722 = .ok (.iaload, 1) := dk_46 (dk_at dksL_law_63 8 rfl rfl)
theorem dL_law_1723 : decode cL_law 1723 = .ok (.invokevirtual 240, 3) := dk_182 0 240 (dk_at dksL_law_63 9 rfl rfl)
theorem dL_law_1726 : decode cL_law 1726 = .ok (.istore 6, 2) := dk_54 6 (dk_at dksL_law_63 12 rfl rfl)
theorem dL_law_1728 : decode cL_law 1728 = .ok (.aload_n 2, 1) := dk_44 (dk_at dksL_law_63 14 rfl rfl)
theorem dL_law_1729 : decode cL_law 1729 = .ok (.invokevirtual 145, 3) := dk_182 0 145 (dk_at dksL_law_63 15 rfl rfl)
theorem dL_law_1732 : decode cL_law 1732 = .ok (.iload 5, 2) := dk_21 5 (dk_at dksL_law_63 18 rfl rfl)
theorem dL_law_1734 : decode cL_law 1734 = .ok (.if_icmp .eq 5, 3) := dk_159 0 5 (dk_at dksL_law_63 20 rfl rfl)
theorem dL_law_1737 : decode cL_law 1737 = .ok (.iconst 0, 1) := dk_3 (dk_at dksL_law_63 23 rfl rfl)
theorem dL_law_1738 : decode cL_law 1738 = .ok (.ireturn, 1) := dk_172 (dk_at dksL_law_64 0 rfl rfl)
theorem dL_law_1739 : decode cL_law 1739 = .ok (.iload 5, 2) := dk_21 5 (dk_at dksL_law_64 1 rfl rfl)
theorem dL_law_1741 : decode cL_law 1741 = .ok (.ifCond .ne 15, 3) := dk_154 0 15 (dk_at dksL_law_64 3 rfl rfl)
theorem dL_law_1744 : decode cL_law 1744 = .ok (.aload_n 3, 1) := dk_45 (dk_at dksL_law_64 6 rfl rfl)
theorem dL_law_1745 : decode cL_law 1745 = .ok (.iconst 0, 1) := dk_3 (dk_at dksL_law_64 7 rfl rfl)
theorem dL_law_1746 : decode cL_law 1746 = .ok (.laload, 1) := dk_47 (dk_at dksL_law_64 8 rfl rfl)
theorem dL_law_1747 : decode cL_law 1747 = .ok (.iload 6, 2) := dk_21 6 (dk_at dksL_law_64 9 rfl rfl)
theorem dL_law_1749 : decode cL_law 1749 = .ok (.i2l, 1) := dk_133 (dk_at dksL_law_64 11 rfl rfl)
theorem dL_law_1750 : decode cL_law 1750 = .ok (.lcmp, 1) := dk_148 (dk_at dksL_law_64 12 rfl rfl)
theorem dL_law_1751 : decode cL_law 1751 = .ok (.ifCond .eq 5, 3) := dk_153 0 5 (dk_at dksL_law_64 13 rfl rfl)
theorem dL_law_1754 : decode cL_law 1754 = .ok (.iconst 0, 1) := dk_3 (dk_at dksL_law_64 16 rfl rfl)
theorem dL_law_1755 : decode cL_law 1755 = .ok (.ireturn, 1) := dk_172 (dk_at dksL_law_64 17 rfl rfl)
theorem dL_law_1756 : decode cL_law 1756 = .ok (.goto 1283, 3) := dk_167 5 3 (dk_at dksL_law_64 18 rfl rfl)
theorem dL_law_1759 : decode cL_law 1759 = .ok (.aload_n 1, 1) := dk_43 (dk_at dksL_law_64 21 rfl rfl)
theorem dL_law_1760 : decode cL_law 1760 = .ok (.aload_n 0, 1) := dk_42 (dk_at dksL_law_64 22 rfl rfl)
theorem dL_law_1761 : decode cL_law 1761 = .ok (.iload 4, 2) := dk_21 4 (dk_at dksL_law_65 0 rfl rfl)
theorem dL_law_1763 : decode cL_law 1763 = .ok (.iconst 1, 1) := dk_4 (dk_at dksL_law_65 2 rfl rfl)
theorem dL_law_1764 : decode cL_law 1764 = .ok (.iadd, 1) := dk_96 (dk_at dksL_law_65 3 rfl rfl)
theorem dL_law_1765 : decode cL_law 1765 = .ok (.iaload, 1) := dk_46 (dk_at dksL_law_65 4 rfl rfl)
theorem dL_law_1766 : decode cL_law 1766 = .ok (.aload_n 3, 1) := dk_45 (dk_at dksL_law_65 5 rfl rfl)
theorem dL_law_1767 : decode cL_law 1767 = .ok (.invokestatic 241, 3) := dk_184 0 241 (dk_at dksL_law_65 6 rfl rfl)
theorem dL_law_1770 : decode cL_law 1770 = .ok (.istore 5, 2) := dk_54 5 (dk_at dksL_law_65 9 rfl rfl)
theorem dL_law_1772 : decode cL_law 1772 = .ok (.aload_n 2, 1) := dk_44 (dk_at dksL_law_65 11 rfl rfl)
theorem dL_law_1773 : decode cL_law 1773 = .ok (.aload_n 0, 1) := dk_42 (dk_at dksL_law_65 12 rfl rfl)
theorem dL_law_1774 : decode cL_law 1774 = .ok (.iload 4, 2) := dk_21 4 (dk_at dksL_law_65 13 rfl rfl)
theorem dL_law_1776 : decode cL_law 1776 = .ok (.iconst 1, 1) := dk_4 (dk_at dksL_law_65 15 rfl rfl)
theorem dL_law_1777 : decode cL_law 1777 = .ok (.iadd, 1) := dk_96 (dk_at dksL_law_65 16 rfl rfl)
theorem dL_law_1778 : decode cL_law 1778 = .ok (.iaload, 1) := dk_46 (dk_at dksL_law_65 17 rfl rfl)
theorem dL_law_1779 : decode cL_law 1779 = .ok (.invokevirtual 243, 3) := dk_182 0 243 (dk_at dksL_law_65 18 rfl rfl)
theorem dL_law_1782 : decode cL_law 1782 = .ok (.istore 6, 2) := dk_54 6 (dk_at dksL_law_65 21 rfl rfl)
theorem dL_law_1784 : decode cL_law 1784 = .ok (.aload_n 2, 1) := dk_44 (dk_at dksL_law_65 23 rfl rfl)
theorem dL_law_1785 : decode cL_law 1785 = .ok (.invokevirtual 145, 3) := dk_182 0 145 (dk_at dksL_law_66 0 rfl rfl)
theorem dL_law_1788 : decode cL_law 1788 = .ok (.iload 5, 2) := dk_21 5 (dk_at dksL_law_66 3 rfl rfl)
theorem dL_law_1790 : decode cL_law 1790 = .ok (.if_icmp .eq 5, 3) := dk_159 0 5 (dk_at dksL_law_66 5 rfl rfl)
theorem dL_law_1793 : decode cL_law 1793 = .ok (.iconst 0, 1) := dk_3 (dk_at dksL_law_66 8 rfl rfl)
theorem dL_law_1794 : decode cL_law 1794 = .ok (.ireturn, 1) := dk_172 (dk_at dksL_law_66 9 rfl rfl)
theorem dL_law_1795 : decode cL_law 1795 = .ok (.iload 5, 2) := dk_21 5 (dk_at dksL_law_66 10 rfl rfl)
theorem dL_law_1797 : decode cL_law 1797 = .ok (.ifCond .ne 22, 3) := dk_154 0 22 (dk_at dksL_law_66 12 rfl rfl)
theorem dL_law_1800 : decode cL_law 1800 = .ok (.aload_n 3, 1) := dk_45 (dk_at dksL_law_66 15 rfl rfl)
theorem dL_law_1801 : decode cL_law 1801 = .ok (.iconst 0, 1) := dk_3 (dk_at dksL_law_66 16 rfl rfl)
theorem dL_law_1802 : decode cL_law 1802 = .ok (.laload, 1) := dk_47 (dk_at dksL_law_66 17 rfl rfl)
theorem dL_law_1803 : decode cL_law 1803 = .ok (.iload 6, 2) := dk_21 6 (dk_at dksL_law_66 18 rfl rfl)
theorem dL_law_1805 : decode cL_law 1805 = .ok (.ifCond .eq 7, 3) := dk_153 0 7 (dk_at dksL_law_66 20 rfl rfl)
theorem dL_law_1808 : decode cL_law 1808 = .ok (.lconst 1, 1) := dk_10 (dk_at dksL_law_66 23 rfl rfl)
theorem dL_law_1809 : decode cL_law 1809 = .ok (.goto 4, 3) := dk_167 0 4 (dk_at dksL_law_67 0 rfl rfl)
theorem dL_law_1812 : decode cL_law 1812 = .ok (.lconst 0, 1) := dk_9 (dk_at dksL_law_67 3 rfl rfl)
theorem dL_law_1813 : decode cL_law 1813 = .ok (.lcmp, 1) := dk_148 (dk_at dksL_law_67 4 rfl rfl)
theorem dL_law_1814 : decode cL_law 1814 = .ok (.ifCond .eq 5, 3) := dk_153 0 5 (dk_at dksL_law_67 5 rfl rfl)
theorem dL_law_1817 : decode cL_law 1817 = .ok (.iconst 0, 1) := dk_3 (dk_at dksL_law_67 8 rfl rfl)
theorem dL_law_1818 : decode cL_law 1818 = .ok (.ireturn, 1) := dk_172 (dk_at dksL_law_67 9 rfl rfl)
theorem dL_law_1819 : decode cL_law 1819 = .ok (.goto 1220, 3) := dk_167 4 196 (dk_at dksL_law_67 10 rfl rfl)
theorem dL_law_1822 : decode cL_law 1822 = .ok (.aload_n 1, 1) := dk_43 (dk_at dksL_law_67 13 rfl rfl)
theorem dL_law_1823 : decode cL_law 1823 = .ok (.aload_n 0, 1) := dk_42 (dk_at dksL_law_67 14 rfl rfl)
theorem dL_law_1824 : decode cL_law 1824 = .ok (.iload 4, 2) := dk_21 4 (dk_at dksL_law_67 15 rfl rfl)
theorem dL_law_1826 : decode cL_law 1826 = .ok (.iconst 1, 1) := dk_4 (dk_at dksL_law_67 17 rfl rfl)
theorem dL_law_1827 : decode cL_law 1827 = .ok (.iadd, 1) := dk_96 (dk_at dksL_law_67 18 rfl rfl)
theorem dL_law_1828 : decode cL_law 1828 = .ok (.iaload, 1) := dk_46 (dk_at dksL_law_67 19 rfl rfl)
theorem dL_law_1829 : decode cL_law 1829 = .ok (.aload_n 3, 1) := dk_45 (dk_at dksL_law_67 20 rfl rfl)
theorem dL_law_1830 : decode cL_law 1830 = .ok (.invokestatic 244, 3) := dk_184 0 244 (dk_at dksL_law_67 21 rfl rfl)
theorem dL_law_1833 : decode cL_law 1833 = .ok (.istore 5, 2) := dk_54 5 (dk_at dksL_law_68 0 rfl rfl)
theorem dL_law_1835 : decode cL_law 1835 = .ok (.aload_n 2, 1) := dk_44 (dk_at dksL_law_68 2 rfl rfl)
theorem dL_law_1836 : decode cL_law 1836 = .ok (.aload_n 0, 1) := dk_42 (dk_at dksL_law_68 3 rfl rfl)
theorem dL_law_1837 : decode cL_law 1837 = .ok (.iload 4, 2) := dk_21 4 (dk_at dksL_law_68 4 rfl rfl)
theorem dL_law_1839 : decode cL_law 1839 = .ok (.iconst 1, 1) := dk_4 (dk_at dksL_law_68 6 rfl rfl)
theorem dL_law_1840 : decode cL_law 1840 = .ok (.iadd, 1) := dk_96 (dk_at dksL_law_68 7 rfl rfl)
theorem dL_law_1841 : decode cL_law 1841 = .ok (.iaload, 1) := dk_46 (dk_at dksL_law_68 8 rfl rfl)
theorem dL_law_1842 : decode cL_law 1842 = .ok (.invokevirtual 246, 3) := dk_182 0 246 (dk_at dksL_law_68 9 rfl rfl)
theorem dL_law_1845 : decode cL_law 1845 = .ok (.istore 6, 2) := dk_54 6 (dk_at dksL_law_68 12 rfl rfl)
theorem dL_law_1847 : decode cL_law 1847 = .ok (.aload_n 2, 1) := dk_44 (dk_at dksL_law_68 14 rfl rfl)
theorem dL_law_1848 : decode cL_law 1848 = .ok (.invokevirtual 145, 3) := dk_182 0 145 (dk_at dksL_law_68 15 rfl rfl)
theorem dL_law_1851 : decode cL_law 1851 = .ok (.iload 5, 2) := dk_21 5 (dk_at dksL_law_68 18 rfl rfl)
theorem dL_law_1853 : decode cL_law 1853 = .ok (.if_icmp .eq 5, 3) := dk_159 0 5 (dk_at dksL_law_68 20 rfl rfl)
theorem dL_law_1856 : decode cL_law 1856 = .ok (.iconst 0, 1) := dk_3 (dk_at dksL_law_68 23 rfl rfl)
theorem dL_law_1857 : decode cL_law 1857 = .ok (.ireturn, 1) := dk_172 (dk_at dksL_law_69 0 rfl rfl)
theorem dL_law_1858 : decode cL_law 1858 = .ok (.iload 5, 2) := dk_21 5 (dk_at dksL_law_69 1 rfl rfl)
theorem dL_law_1860 : decode cL_law 1860 = .ok (.ifCond .ne 15, 3) := dk_154 0 15 (dk_at dksL_law_69 3 rfl rfl)
theorem dL_law_1863 : decode cL_law 1863 = .ok (.aload_n 3, 1) := dk_45 (dk_at dksL_law_69 6 rfl rfl)
theorem dL_law_1864 : decode cL_law 1864 = .ok (.iconst 0, 1) := dk_3 (dk_at dksL_law_69 7 rfl rfl)
theorem dL_law_1865 : decode cL_law 1865 = .ok (.laload, 1) := dk_47 (dk_at dksL_law_69 8 rfl rfl)
theorem dL_law_1866 : decode cL_law 1866 = .ok (.iload 6, 2) := dk_21 6 (dk_at dksL_law_69 9 rfl rfl)
theorem dL_law_1868 : decode cL_law 1868 = .ok (.i2l, 1) := dk_133 (dk_at dksL_law_69 11 rfl rfl)
theorem dL_law_1869 : decode cL_law 1869 = .ok (.lcmp, 1) := dk_148 (dk_at dksL_law_69 12 rfl rfl)
theorem dL_law_1870 : decode cL_law 1870 = .ok (.ifCond .eq 5, 3) := dk_153 0 5 (dk_at dksL_law_69 13 rfl rfl)
theorem dL_law_1873 : decode cL_law 1873 = .ok (.iconst 0, 1) := dk_3 (dk_at dksL_law_69 16 rfl rfl)
theorem dL_law_1874 : decode cL_law 1874 = .ok (.ireturn, 1) := dk_172 (dk_at dksL_law_69 17 rfl rfl)
theorem dL_law_1875 : decode cL_law 1875 = .ok (.goto 1164, 3) := dk_167 4 140 (dk_at dksL_law_69 18 rfl rfl)
theorem dL_law_1878 : decode cL_law 1878 = .ok (.aload_n 1, 1) := dk_43 (dk_at dksL_law_69 21 rfl rfl)
theorem dL_law_1879 : decode cL_law 1879 = .ok (.invokevirtual 247, 3) := dk_182 0 247 (dk_at dksL_law_70 0 rfl rfl)
theorem dL_law_1882 : decode cL_law 1882 = .ok (.aload_n 2, 1) := dk_44 (dk_at dksL_law_70 3 rfl rfl)
theorem dL_law_1883 : decode cL_law 1883 = .ok (.invokevirtual 250, 3) := dk_182 0 250 (dk_at dksL_law_70 4 rfl rfl)
theorem dL_law_1886 : decode cL_law 1886 = .ok (.if_icmp .eq 1153, 3) := dk_159 4 129 (dk_at dksL_law_70 7 rfl rfl)
theorem dL_law_1889 : decode cL_law 1889 = .ok (.iconst 0, 1) := dk_3 (dk_at dksL_law_70 10 rfl rfl)
theorem dL_law_1890 : decode cL_law 1890 = .ok (.ireturn, 1) := dk_172 (dk_at dksL_law_70 11 rfl rfl)
theorem dL_law_1891 : decode cL_law 1891 = .ok (.aload_n 1, 1) := dk_43 (dk_at dksL_law_70 12 rfl rfl)
theorem dL_law_1892 : decode cL_law 1892 = .ok (.invokevirtual 251, 3) := dk_182 0 251 (dk_at dksL_law_70 13 rfl rfl)
theorem dL_law_1895 : decode cL_law 1895 = .ok (.aload_n 2, 1) := dk_44 (dk_at dksL_law_70 16 rfl rfl)
theorem dL_law_1896 : decode cL_law 1896 = .ok (.invokevirtual 254, 3) := dk_182 0 254 (dk_at dksL_law_70 17 rfl rfl)
theorem dL_law_1899 : decode cL_law 1899 = .ok (.if_icmp .eq 1140, 3) := dk_159 4 116 (dk_at dksL_law_70 20 rfl rfl)
theorem dL_law_1902 : decode cL_law 1902 = .ok (.iconst 0, 1) := dk_3 (dk_at dksL_law_70 23 rfl rfl)
theorem dL_law_1903 : decode cL_law 1903 = .ok (.ireturn, 1) := dk_172 (dk_at dksL_law_71 0 rfl rfl)
theorem dL_law_1904 : decode cL_law 1904 = .ok (.aload_n 1, 1) := dk_43 (dk_at dksL_law_71 1 rfl rfl)
theorem dL_law_1905 : decode cL_law 1905 = .ok (.invokevirtual 255, 3) := dk_182 0 255 (dk_at dksL_law_71 2 rfl rfl)
theorem dL_law_1908 : decode cL_law 1908 = .ok (.aload_n 2, 1) := dk_44 (dk_at dksL_law_71 5 rfl rfl)
theorem dL_law_1909 : decode cL_law 1909 = .ok (.invokevirtual 258, 3) := dk_182 1 2 (dk_at dksL_law_71 6 rfl rfl)
theorem dL_law_1912 : decode cL_law 1912 = .ok (.if_icmp .eq 1127, 3) := dk_159 4 103 (dk_at dksL_law_71 9 rfl rfl)
theorem dL_law_1915 : decode cL_law 1915 = .ok (.iconst 0, 1) := dk_3 (dk_at dksL_law_71 12 rfl rfl)
theorem dL_law_1916 : decode cL_law 1916 = .ok (.ireturn, 1) := dk_172 (dk_at dksL_law_71 13 rfl rfl)
theorem dL_law_1917 : decode cL_law 1917 = .ok (.aload_n 1, 1) := dk_43 (dk_at dksL_law_71 14 rfl rfl)
theorem dL_law_1918 : decode cL_law 1918 = .ok (.invokevirtual 259, 3) := dk_182 1 3 (dk_at dksL_law_71 15 rfl rfl)
theorem dL_law_1921 : decode cL_law 1921 = .ok (.aload_n 2, 1) := dk_44 (dk_at dksL_law_71 18 rfl rfl)
theorem dL_law_1922 : decode cL_law 1922 = .ok (.invokevirtual 262, 3) := dk_182 1 6 (dk_at dksL_law_71 19 rfl rfl)
theorem dL_law_1925 : decode cL_law 1925 = .ok (.if_icmp .eq 1114, 3) := dk_159 4 90 (dk_at dksL_law_72 0 rfl rfl)
theorem dL_law_1928 : decode cL_law 1928 = .ok (.iconst 0, 1) := dk_3 (dk_at dksL_law_72 3 rfl rfl)
theorem dL_law_1929 : decode cL_law 1929 = .ok (.ireturn, 1) := dk_172 (dk_at dksL_law_72 4 rfl rfl)
theorem dL_law_1930 : decode cL_law 1930 = .ok (.aload_n 1, 1) := dk_43 (dk_at dksL_law_72 5 rfl rfl)
theorem dL_law_1931 : decode cL_law 1931 = .ok (.invokevirtual 263, 3) := dk_182 1 7 (dk_at dksL_law_72 6 rfl rfl)
theorem dL_law_1934 : decode cL_law 1934 = .ok (.aload_n 2, 1) := dk_44 (dk_at dksL_law_72 9 rfl rfl)
theorem dL_law_1935 : decode cL_law 1935 = .ok (.invokevirtual 266, 3) := dk_182 1 10 (dk_at dksL_law_72 10 rfl rfl)
theorem dL_law_1938 : decode cL_law 1938 = .ok (.if_icmp .eq 1101, 3) := dk_159 4 77 (dk_at dksL_law_72 13 rfl rfl)
theorem dL_law_1941 : decode cL_law 1941 = .ok (.iconst 0, 1) := dk_3 (dk_at dksL_law_72 16 rfl rfl)
theorem dL_law_1942 : decode cL_law 1942 = .ok (.ireturn, 1) := dk_172 (dk_at dksL_law_72 17 rfl rfl)
theorem dL_law_1943 : decode cL_law 1943 = .ok (.aload_n 1, 1) := dk_43 (dk_at dksL_law_72 18 rfl rfl)
theorem dL_law_1944 : decode cL_law 1944 = .ok (.aload_n 0, 1) := dk_42 (dk_at dksL_law_72 19 rfl rfl)
theorem dL_law_1945 : decode cL_law 1945 = .ok (.iload 4, 2) := dk_21 4 (dk_at dksL_law_72 20 rfl rfl)
theorem dL_law_1947 : decode cL_law 1947 = .ok (.iconst 1, 1) := dk_4 (dk_at dksL_law_72 22 rfl rfl)
theorem dL_law_1948 : decode cL_law 1948 = .ok (.iadd, 1) := dk_96 (dk_at dksL_law_72 23 rfl rfl)
theorem dL_law_1949 : decode cL_law 1949 = .ok (.iaload, 1) := dk_46 (dk_at dksL_law_73 0 rfl rfl)
theorem dL_law_1950 : decode cL_law 1950 = .ok (.invokevirtual 267, 3) := dk_182 1 11 (dk_at dksL_law_73 1 rfl rfl)
theorem dL_law_1953 : decode cL_law 1953 = .ok (.aload_n 2, 1) := dk_44 (dk_at dksL_law_73 4 rfl rfl)
theorem dL_law_1954 : decode cL_law 1954 = .ok (.aload_n 0, 1) := dk_42 (dk_at dksL_law_73 5 rfl rfl)
theorem dL_law_1955 : decode cL_law 1955 = .ok (.iload 4, 2) := dk_21 4 (dk_at dksL_law_73 6 rfl rfl)
theorem dL_law_1957 : decode cL_law 1957 = .ok (.iconst 1, 1) := dk_4 (dk_at dksL_law_73 8 rfl rfl)
theorem dL_law_1958 : decode cL_law 1958 = .ok (.iadd, 1) := dk_96 (dk_at dksL_law_73 9 rfl rfl)
theorem dL_law_1959 : decode cL_law 1959 = .ok (.iaload, 1) := dk_46 (dk_at dksL_law_73 10 rfl rfl)
theorem dL_law_1960 : decode cL_law 1960 = .ok (.invokevirtual 270, 3) := dk_182 1 14 (dk_at dksL_law_73 11 rfl rfl)
theorem dL_law_1963 : decode cL_law 1963 = .ok (.if_icmp .eq 1076, 3) := dk_159 4 52 (dk_at dksL_law_73 14 rfl rfl)
theorem dL_law_1966 : decode cL_law 1966 = .ok (.iconst 0, 1) := dk_3 (dk_at dksL_law_73 17 rfl rfl)
theorem dL_law_1967 : decode cL_law 1967 = .ok (.ireturn, 1) := dk_172 (dk_at dksL_law_73 18 rfl rfl)
theorem dL_law_1968 : decode cL_law 1968 = .ok (.aload_n 1, 1) := dk_43 (dk_at dksL_law_73 19 rfl rfl)
theorem dL_law_1969 : decode cL_law 1969 = .ok (.invokevirtual 271, 3) := dk_182 1 15 (dk_at dksL_law_73 20 rfl rfl)
theorem dL_law_1972 : decode cL_law 1972 = .ok (.aload_n 2, 1) := dk_44 (dk_at dksL_law_73 23 rfl rfl)
theorem dL_law_1973 : decode cL_law 1973 = .ok (.invokevirtual 274, 3) := dk_182 1 18 (dk_at dksL_law_74 0 rfl rfl)
theorem dL_law_1976 : decode cL_law 1976 = .ok (.if_icmp .eq 1063, 3) := dk_159 4 39 (dk_at dksL_law_74 3 rfl rfl)
theorem dL_law_1979 : decode cL_law 1979 = .ok (.iconst 0, 1) := dk_3 (dk_at dksL_law_74 6 rfl rfl)
theorem dL_law_1980 : decode cL_law 1980 = .ok (.ireturn, 1) := dk_172 (dk_at dksL_law_74 7 rfl rfl)
theorem dL_law_1981 : decode cL_law 1981 = .ok (.aload_n 1, 1) := dk_43 (dk_at dksL_law_74 8 rfl rfl)
theorem dL_law_1982 : decode cL_law 1982 = .ok (.invokevirtual 275, 3) := dk_182 1 19 (dk_at dksL_law_74 9 rfl rfl)
theorem dL_law_1985 : decode cL_law 1985 = .ok (.aload_n 2, 1) := dk_44 (dk_at dksL_law_74 12 rfl rfl)
theorem dL_law_1986 : decode cL_law 1986 = .ok (.invokevirtual 278, 3) := dk_182 1 22 (dk_at dksL_law_74 13 rfl rfl)
theorem dL_law_1989 : decode cL_law 1989 = .ok (.if_icmp .eq 1050, 3) := dk_159 4 26 (dk_at dksL_law_74 16 rfl rfl)
theorem dL_law_1992 : decode cL_law 1992 = .ok (.iconst 0, 1) := dk_3 (dk_at dksL_law_74 19 rfl rfl)
theorem dL_law_1993 : decode cL_law 1993 = .ok (.ireturn, 1) := dk_172 (dk_at dksL_law_74 20 rfl rfl)
theorem dL_law_1994 : decode cL_law 1994 = .ok (.aload_n 1, 1) := dk_43 (dk_at dksL_law_74 21 rfl rfl)
theorem dL_law_1995 : decode cL_law 1995 = .ok (.invokevirtual 279, 3) := dk_182 1 23 (dk_at dksL_law_75 0 rfl rfl)
theorem dL_law_1998 : decode cL_law 1998 = .ok (.aload_n 2, 1) := dk_44 (dk_at dksL_law_75 3 rfl rfl)
theorem dL_law_1999 : decode cL_law 1999 = .ok (.invokevirtual 282, 3) := dk_182 1 26 (dk_at dksL_law_75 4 rfl rfl)
theorem dL_law_2002 : decode cL_law 2002 = .ok (.if_icmp .eq 1037, 3) := dk_159 4 13 (dk_at dksL_law_75 7 rfl rfl)
theorem dL_law_2005 : decode cL_law 2005 = .ok (.iconst 0, 1) := dk_3 (dk_at dksL_law_75 10 rfl rfl)
theorem dL_law_2006 : decode cL_law 2006 = .ok (.ireturn, 1) := dk_172 (dk_at dksL_law_75 11 rfl rfl)
theorem dL_law_2007 : decode cL_law 2007 = .ok (.aload_n 1, 1) := dk_43 (dk_at dksL_law_75 12 rfl rfl)
theorem dL_law_2008 : decode cL_law 2008 = .ok (.invokevirtual 283, 3) := dk_182 1 27 (dk_at dksL_law_75 13 rfl rfl)
theorem dL_law_2011 : decode cL_law 2011 = .ok (.dstore 5, 2) := dk_57 5 (dk_at dksL_law_75 16 rfl rfl)
theorem dL_law_2013 : decode cL_law 2013 = .ok (.aload_n 2, 1) := dk_44 (dk_at dksL_law_75 18 rfl rfl)
theorem dL_law_2014 : decode cL_law 2014 = .ok (.invokevirtual 287, 3) := dk_182 1 31 (dk_at dksL_law_75 19 rfl rfl)
theorem dL_law_2017 : decode cL_law 2017 = .ok (.dstore 7, 2) := dk_57 7 (dk_at dksL_law_75 22 rfl rfl)
theorem dL_law_2019 : decode cL_law 2019 = .ok (.dload 5, 2) := dk_24 5 (dk_at dksL_law_76 0 rfl rfl)
theorem dL_law_2021 : decode cL_law 2021 = .ok (.dload 7, 2) := dk_24 7 (dk_at dksL_law_76 2 rfl rfl)
theorem dL_law_2023 : decode cL_law 2023 = .ok (.dcmp .l, 1) := dk_151 (dk_at dksL_law_76 4 rfl rfl)
theorem dL_law_2024 : decode cL_law 2024 = .ok (.ifCond .eq 21, 3) := dk_153 0 21 (dk_at dksL_law_76 5 rfl rfl)
theorem dL_law_2027 : decode cL_law 2027 = .ok (.dload 5, 2) := dk_24 5 (dk_at dksL_law_76 8 rfl rfl)
theorem dL_law_2029 : decode cL_law 2029 = .ok (.dload 5, 2) := dk_24 5 (dk_at dksL_law_76 10 rfl rfl)
theorem dL_law_2031 : decode cL_law 2031 = .ok (.dcmp .l, 1) := dk_151 (dk_at dksL_law_76 12 rfl rfl)
theorem dL_law_2032 : decode cL_law 2032 = .ok (.ifCond .eq 11, 3) := dk_153 0 11 (dk_at dksL_law_76 13 rfl rfl)
theorem dL_law_2035 : decode cL_law 2035 = .ok (.dload 7, 2) := dk_24 7 (dk_at dksL_law_76 16 rfl rfl)
theorem dL_law_2037 : decode cL_law 2037 = .ok (.dload 7, 2) := dk_24 7 (dk_at dksL_law_76 18 rfl rfl)
theorem dL_law_2039 : decode cL_law 2039 = .ok (.dcmp .l, 1) := dk_151 (dk_at dksL_law_76 20 rfl rfl)
theorem dL_law_2040 : decode cL_law 2040 = .ok (.ifCond .ne 5, 3) := dk_154 0 5 (dk_at dksL_law_76 21 rfl rfl)
theorem dL_law_2043 : decode cL_law 2043 = .ok (.iconst 0, 1) := dk_3 (dk_at dksL_law_77 0 rfl rfl)
theorem dL_law_2044 : decode cL_law 2044 = .ok (.ireturn, 1) := dk_172 (dk_at dksL_law_77 1 rfl rfl)
theorem dL_law_2045 : decode cL_law 2045 = .ok (.goto 994, 3) := dk_167 3 226 (dk_at dksL_law_77 2 rfl rfl)
theorem dL_law_2048 : decode cL_law 2048 = .ok (.aload_n 1, 1) := dk_43 (dk_at dksL_law_77 5 rfl rfl)
theorem dL_law_2049 : decode cL_law 2049 = .ok (.invokevirtual 288, 3) := dk_182 1 32 (dk_at dksL_law_77 6 rfl rfl)
theorem dL_law_2052 : decode cL_law 2052 = .ok (.f2d, 1) := dk_141 (dk_at dksL_law_77 9 rfl rfl)
theorem dL_law_2053 : decode cL_law 2053 = .ok (.dstore 5, 2) := dk_57 5 (dk_at dksL_law_77 10 rfl rfl)
theorem dL_law_2055 : decode cL_law 2055 = .ok (.aload_n 2, 1) := dk_44 (dk_at dksL_law_77 12 rfl rfl)
theorem dL_law_2056 : decode cL_law 2056 = .ok (.invokevirtual 292, 3) := dk_182 1 36 (dk_at dksL_law_77 13 rfl rfl)
theorem dL_law_2059 : decode cL_law 2059 = .ok (.f2d, 1) := dk_141 (dk_at dksL_law_77 16 rfl rfl)
theorem dL_law_2060 : decode cL_law 2060 = .ok (.dstore 7, 2) := dk_57 7 (dk_at dksL_law_77 17 rfl rfl)
theorem dL_law_2062 : decode cL_law 2062 = .ok (.dload 5, 2) := dk_24 5 (dk_at dksL_law_77 19 rfl rfl)
theorem dL_law_2064 : decode cL_law 2064 = .ok (.dload 7, 2) := dk_24 7 (dk_at dksL_law_77 21 rfl rfl)
theorem dL_law_2066 : decode cL_law 2066 = .ok (.dcmp .l, 1) := dk_151 (dk_at dksL_law_77 23 rfl rfl)
theorem dL_law_2067 : decode cL_law 2067 = .ok (.ifCond .eq 21, 3) := dk_153 0 21 (dk_at dksL_law_78 0 rfl rfl)
theorem dL_law_2070 : decode cL_law 2070 = .ok (.dload 5, 2) := dk_24 5 (dk_at dksL_law_78 3 rfl rfl)
theorem dL_law_2072 : decode cL_law 2072 = .ok (.dload 5, 2) := dk_24 5 (dk_at dksL_law_78 5 rfl rfl)
theorem dL_law_2074 : decode cL_law 2074 = .ok (.dcmp .l, 1) := dk_151 (dk_at dksL_law_78 7 rfl rfl)
theorem dL_law_2075 : decode cL_law 2075 = .ok (.ifCond .eq 11, 3) := dk_153 0 11 (dk_at dksL_law_78 8 rfl rfl)
theorem dL_law_2078 : decode cL_law 2078 = .ok (.dload 7, 2) := dk_24 7 (dk_at dksL_law_78 11 rfl rfl)
theorem dL_law_2080 : decode cL_law 2080 = .ok (.dload 7, 2) := dk_24 7 (dk_at dksL_law_78 13 rfl rfl)
theorem dL_law_2082 : decode cL_law 2082 = .ok (.dcmp .l, 1) := dk_151 (dk_at dksL_law_78 15 rfl rfl)
theorem dL_law_2083 : decode cL_law 2083 = .ok (.ifCond .ne 5, 3) := dk_154 0 5 (dk_at dksL_law_78 16 rfl rfl)
theorem dL_law_2086 : decode cL_law 2086 = .ok (.iconst 0, 1) := dk_3 (dk_at dksL_law_78 19 rfl rfl)
theorem dL_law_2087 : decode cL_law 2087 = .ok (.ireturn, 1) := dk_172 (dk_at dksL_law_78 20 rfl rfl)
theorem dL_law_2088 : decode cL_law 2088 = .ok (.goto 951, 3) := dk_167 3 183 (dk_at dksL_law_78 21 rfl rfl)
theorem dL_law_2091 : decode cL_law 2091 = .ok (.aload_n 1, 1) := dk_43 (dk_at dksL_law_79 0 rfl rfl)
theorem dL_law_2092 : decode cL_law 2092 = .ok (.invokevirtual 293, 3) := dk_182 1 37 (dk_at dksL_law_79 1 rfl rfl)
theorem dL_law_2095 : decode cL_law 2095 = .ok (.aload_n 2, 1) := dk_44 (dk_at dksL_law_79 4 rfl rfl)
theorem dL_law_2096 : decode cL_law 2096 = .ok (.invokevirtual 297, 3) := dk_182 1 41 (dk_at dksL_law_79 5 rfl rfl)
theorem dL_law_2099 : decode cL_law 2099 = .ok (.if_icmp .eq 940, 3) := dk_159 3 172 (dk_at dksL_law_79 8 rfl rfl)
theorem dL_law_2102 : decode cL_law 2102 = .ok (.iconst 0, 1) := dk_3 (dk_at dksL_law_79 11 rfl rfl)
theorem dL_law_2103 : decode cL_law 2103 = .ok (.ireturn, 1) := dk_172 (dk_at dksL_law_79 12 rfl rfl)
theorem dL_law_2104 : decode cL_law 2104 = .ok (.aload_n 1, 1) := dk_43 (dk_at dksL_law_79 13 rfl rfl)
theorem dL_law_2105 : decode cL_law 2105 = .ok (.invokevirtual 298, 3) := dk_182 1 42 (dk_at dksL_law_79 14 rfl rfl)
theorem dL_law_2108 : decode cL_law 2108 = .ok (.aload_n 2, 1) := dk_44 (dk_at dksL_law_79 17 rfl rfl)
theorem dL_law_2109 : decode cL_law 2109 = .ok (.invokevirtual 301, 3) := dk_182 1 45 (dk_at dksL_law_79 18 rfl rfl)
theorem dL_law_2112 : decode cL_law 2112 = .ok (.if_icmp .eq 927, 3) := dk_159 3 159 (dk_at dksL_law_79 21 rfl rfl)
theorem dL_law_2115 : decode cL_law 2115 = .ok (.iconst 0, 1) := dk_3 (dk_at dksL_law_80 0 rfl rfl)
theorem dL_law_2116 : decode cL_law 2116 = .ok (.ireturn, 1) := dk_172 (dk_at dksL_law_80 1 rfl rfl)
theorem dL_law_2117 : decode cL_law 2117 = .ok (.aload_n 1, 1) := dk_43 (dk_at dksL_law_80 2 rfl rfl)
theorem dL_law_2118 : decode cL_law 2118 = .ok (.aload_n 0, 1) := dk_42 (dk_at dksL_law_80 3 rfl rfl)
theorem dL_law_2119 : decode cL_law 2119 = .ok (.iload 4, 2) := dk_21 4 (dk_at dksL_law_80 4 rfl rfl)
theorem dL_law_2121 : decode cL_law 2121 = .ok (.iconst 1, 1) := dk_4 (dk_at dksL_law_80 6 rfl rfl)
theorem dL_law_2122 : decode cL_law 2122 = .ok (.iadd, 1) := dk_96 (dk_at dksL_law_80 7 rfl rfl)
theorem dL_law_2123 : decode cL_law 2123 = .ok (.iaload, 1) := dk_46 (dk_at dksL_law_80 8 rfl rfl)
theorem dL_law_2124 : decode cL_law 2124 = .ok (.aload_n 3, 1) := dk_45 (dk_at dksL_law_80 9 rfl rfl)
theorem dL_law_2125 : decode cL_law 2125 = .ok (.invokestatic 302, 3) := dk_184 1 46 (dk_at dksL_law_80 10 rfl rfl)
theorem dL_law_2128 : decode cL_law 2128 = .ok (.istore 5, 2) := dk_54 5 (dk_at dksL_law_80 13 rfl rfl)
theorem dL_law_2130 : decode cL_law 2130 = .ok (.aload_n 2, 1) := dk_44 (dk_at dksL_law_80 15 rfl rfl)
theorem dL_law_2131 : decode cL_law 2131 = .ok (.aload_n 0, 1) := dk_42 (dk_at dksL_law_80 16 rfl rfl)
theorem dL_law_2132 : decode cL_law 2132 = .ok (.iload 4, 2) := dk_21 4 (dk_at dksL_law_80 17 rfl rfl)
theorem dL_law_2134 : decode cL_law 2134 = .ok (.iconst 1, 1) := dk_4 (dk_at dksL_law_80 19 rfl rfl)
theorem dL_law_2135 : decode cL_law 2135 = .ok (.iadd, 1) := dk_96 (dk_at dksL_law_80 20 rfl rfl)
theorem dL_law_2136 : decode cL_law 2136 = .ok (.iaload, 1) := dk_46 (dk_at dksL_law_80 21 rfl rfl)
theorem dL_law_2137 : decode cL_law 2137 = .ok (.invokevirtual 304, 3) := dk_182 1 48 (dk_at dksL_law_81 0 rfl rfl)
theorem dL_law_2140 : decode cL_law 2140 = .ok (.istore 6, 2) := dk_54 6 (dk_at dksL_law_81 3 rfl rfl)
theorem dL_law_2142 : decode cL_law 2142 = .ok (.aload_n 2, 1) := dk_44 (dk_at dksL_law_81 5 rfl rfl)
theorem dL_law_2143 : decode cL_law 2143 = .ok (.invokevirtual 145, 3) := dk_182 0 145 (dk_at dksL_law_81 6 rfl rfl)
theorem dL_law_2146 : decode cL_law 2146 = .ok (.iload 5, 2) := dk_21 5 (dk_at dksL_law_81 9 rfl rfl)
theorem dL_law_2148 : decode cL_law 2148 = .ok (.if_icmp .eq 5, 3) := dk_159 0 5 (dk_at dksL_law_81 11 rfl rfl)
theorem dL_law_2151 : decode cL_law 2151 = .ok (.iconst 0, 1) := dk_3 (dk_at dksL_law_81 14 rfl rfl)
theorem dL_law_2152 : decode cL_law 2152 = .ok (.ireturn, 1) := dk_172 (dk_at dksL_law_81 15 rfl rfl)
theorem dL_law_2153 : decode cL_law 2153 = .ok (.iload 5, 2) := dk_21 5 (dk_at dksL_law_81 16 rfl rfl)
theorem dL_law_2155 : decode cL_law 2155 = .ok (.ifCond .ne 15, 3) := dk_154 0 15 (dk_at dksL_law_81 18 rfl rfl)
theorem dL_law_2158 : decode cL_law 2158 = .ok (.aload_n 3, 1) := dk_45 (dk_at dksL_law_81 21 rfl rfl)
theorem dL_law_2159 : decode cL_law 2159 = .ok (.iconst 0, 1) := dk_3 (dk_at dksL_law_81 22 rfl rfl)
theorem dL_law_2160 : decode cL_law 2160 = .ok (.laload, 1) := dk_47 (dk_at dksL_law_81 23 rfl rfl)
theorem dL_law_2161 : decode cL_law 2161 = .ok (.iload 6, 2) := dk_21 6 (dk_at dksL_law_82 0 rfl rfl)
theorem dL_law_2163 : decode cL_law 2163 = .ok (.i2l, 1) := dk_133 (dk_at dksL_law_82 2 rfl rfl)
theorem dL_law_2164 : decode cL_law 2164 = .ok (.lcmp, 1) := dk_148 (dk_at dksL_law_82 3 rfl rfl)
theorem dL_law_2165 : decode cL_law 2165 = .ok (.ifCond .eq 5, 3) := dk_153 0 5 (dk_at dksL_law_82 4 rfl rfl)
theorem dL_law_2168 : decode cL_law 2168 = .ok (.iconst 0, 1) := dk_3 (dk_at dksL_law_82 7 rfl rfl)
theorem dL_law_2169 : decode cL_law 2169 = .ok (.ireturn, 1) := dk_172 (dk_at dksL_law_82 8 rfl rfl)
theorem dL_law_2170 : decode cL_law 2170 = .ok (.goto 869, 3) := dk_167 3 101 (dk_at dksL_law_82 9 rfl rfl)
theorem dL_law_2173 : decode cL_law 2173 = .ok (.aload_n 1, 1) := dk_43 (dk_at dksL_law_82 12 rfl rfl)
theorem dL_law_2174 : decode cL_law 2174 = .ok (.aload_n 0, 1) := dk_42 (dk_at dksL_law_82 13 rfl rfl)
theorem dL_law_2175 : decode cL_law 2175 = .ok (.iload 4, 2) := dk_21 4 (dk_at dksL_law_82 14 rfl rfl)
theorem dL_law_2177 : decode cL_law 2177 = .ok (.iconst 1, 1) := dk_4 (dk_at dksL_law_82 16 rfl rfl)
theorem dL_law_2178 : decode cL_law 2178 = .ok (.iadd, 1) := dk_96 (dk_at dksL_law_82 17 rfl rfl)
theorem dL_law_2179 : decode cL_law 2179 = .ok (.iaload, 1) := dk_46 (dk_at dksL_law_82 18 rfl rfl)
theorem dL_law_2180 : decode cL_law 2180 = .ok (.aload_n 3, 1) := dk_45 (dk_at dksL_law_82 19 rfl rfl)
theorem dL_law_2181 : decode cL_law 2181 = .ok (.invokestatic 305, 3) := dk_184 1 49 (dk_at dksL_law_82 20 rfl rfl)
theorem dL_law_2184 : decode cL_law 2184 = .ok (.istore 5, 2) := dk_54 5 (dk_at dksL_law_83 0 rfl rfl)
theorem dL_law_2186 : decode cL_law 2186 = .ok (.aload_n 2, 1) := dk_44 (dk_at dksL_law_83 2 rfl rfl)
theorem dL_law_2187 : decode cL_law 2187 = .ok (.aload_n 0, 1) := dk_42 (dk_at dksL_law_83 3 rfl rfl)
theorem dL_law_2188 : decode cL_law 2188 = .ok (.iload 4, 2) := dk_21 4 (dk_at dksL_law_83 4 rfl rfl)
theorem dL_law_2190 : decode cL_law 2190 = .ok (.iconst 1, 1) := dk_4 (dk_at dksL_law_83 6 rfl rfl)
theorem dL_law_2191 : decode cL_law 2191 = .ok (.iadd, 1) := dk_96 (dk_at dksL_law_83 7 rfl rfl)
theorem dL_law_2192 : decode cL_law 2192 = .ok (.iaload, 1) := dk_46 (dk_at dksL_law_83 8 rfl rfl)
theorem dL_law_2193 : decode cL_law 2193 = .ok (.invokevirtual 307, 3) := dk_182 1 51 (dk_at dksL_law_83 9 rfl rfl)
theorem dL_law_2196 : decode cL_law 2196 = .ok (.istore 6, 2) := dk_54 6 (dk_at dksL_law_83 12 rfl rfl)
theorem dL_law_2198 : decode cL_law 2198 = .ok (.aload_n 2, 1) := dk_44 (dk_at dksL_law_83 14 rfl rfl)
theorem dL_law_2199 : decode cL_law 2199 = .ok (.invokevirtual 145, 3) := dk_182 0 145 (dk_at dksL_law_83 15 rfl rfl)
theorem dL_law_2202 : decode cL_law 2202 = .ok (.iload 5, 2) := dk_21 5 (dk_at dksL_law_83 18 rfl rfl)
theorem dL_law_2204 : decode cL_law 2204 = .ok (.if_icmp .eq 5, 3) := dk_159 0 5 (dk_at dksL_law_83 20 rfl rfl)
theorem dL_law_2207 : decode cL_law 2207 = .ok (.iconst 0, 1) := dk_3 (dk_at dksL_law_83 23 rfl rfl)
theorem dL_law_2208 : decode cL_law 2208 = .ok (.ireturn, 1) := dk_172 (dk_at dksL_law_84 0 rfl rfl)
theorem dL_law_2209 : decode cL_law 2209 = .ok (.iload 5, 2) := dk_21 5 (dk_at dksL_law_84 1 rfl rfl)
theorem dL_law_2211 : decode cL_law 2211 = .ok (.ifCond .ne 15, 3) := dk_154 0 15 (dk_at dksL_law_84 3 rfl rfl)
theorem dL_law_2214 : decode cL_law 2214 = .ok (.aload_n 3, 1) := dk_45 (dk_at dksL_law_84 6 rfl rfl)
theorem dL_law_2215 : decode cL_law 2215 = .ok (.iconst 0, 1) := dk_3 (dk_at dksL_law_84 7 rfl rfl)
theorem dL_law_2216 : decode cL_law 2216 = .ok (.laload, 1) := dk_47 (dk_at dksL_law_84 8 rfl rfl)
theorem dL_law_2217 : decode cL_law 2217 = .ok (.iload 6, 2) := dk_21 6 (dk_at dksL_law_84 9 rfl rfl)
theorem dL_law_2219 : decode cL_law 2219 = .ok (.i2l, 1) := dk_133 (dk_at dksL_law_84 11 rfl rfl)
theorem dL_law_2220 : decode cL_law 2220 = .ok (.lcmp, 1) := dk_148 (dk_at dksL_law_84 12 rfl rfl)
theorem dL_law_2221 : decode cL_law 2221 = .ok (.ifCond .eq 5, 3) := dk_153 0 5 (dk_at dksL_law_84 13 rfl rfl)
theorem dL_law_2224 : decode cL_law 2224 = .ok (.iconst 0, 1) := dk_3 (dk_at dksL_law_84 16 rfl rfl)
theorem dL_law_2225 : decode cL_law 2225 = .ok (.ireturn, 1) := dk_172 (dk_at dksL_law_84 17 rfl rfl)
theorem dL_law_2226 : decode cL_law 2226 = .ok (.goto 813, 3) := dk_167 3 45 (dk_at dksL_law_84 18 rfl rfl)
theorem dL_law_2229 : decode cL_law 2229 = .ok (.aload_n 1, 1) := dk_43 (dk_at dksL_law_84 21 rfl rfl)
theorem dL_law_2230 : decode cL_law 2230 = .ok (.invokevirtual 308, 3) := dk_182 1 52 (dk_at dksL_law_85 0 rfl rfl)
theorem dL_law_2233 : decode cL_law 2233 = .ok (.aload_n 2, 1) := dk_44 (dk_at dksL_law_85 3 rfl rfl)
theorem dL_law_2234 : decode cL_law 2234 = .ok (.invokevirtual 311, 3) := dk_182 1 55 (dk_at dksL_law_85 4 rfl rfl)
theorem dL_law_2237 : decode cL_law 2237 = .ok (.if_icmp .eq 802, 3) := dk_159 3 34 (dk_at dksL_law_85 7 rfl rfl)
theorem dL_law_2240 : decode cL_law 2240 = .ok (.iconst 0, 1) := dk_3 (dk_at dksL_law_85 10 rfl rfl)
theorem dL_law_2241 : decode cL_law 2241 = .ok (.ireturn, 1) := dk_172 (dk_at dksL_law_85 11 rfl rfl)
theorem dL_law_2242 : decode cL_law 2242 = .ok (.aload_n 1, 1) := dk_43 (dk_at dksL_law_85 12 rfl rfl)
theorem dL_law_2243 : decode cL_law 2243 = .ok (.invokevirtual 312, 3) := dk_182 1 56 (dk_at dksL_law_85 13 rfl rfl)
theorem dL_law_2246 : decode cL_law 2246 = .ok (.aload_n 2, 1) := dk_44 (dk_at dksL_law_85 16 rfl rfl)
theorem dL_law_2247 : decode cL_law 2247 = .ok (.invokevirtual 315, 3) := dk_182 1 59 (dk_at dksL_law_85 17 rfl rfl)
theorem dL_law_2250 : decode cL_law 2250 = .ok (.if_icmp .eq 789, 3) := dk_159 3 21 (dk_at dksL_law_85 20 rfl rfl)
theorem dL_law_2253 : decode cL_law 2253 = .ok (.iconst 0, 1) := dk_3 (dk_at dksL_law_85 23 rfl rfl)
theorem dL_law_2254 : decode cL_law 2254 = .ok (.ireturn, 1) := dk_172 (dk_at dksL_law_86 0 rfl rfl)
theorem dL_law_2255 : decode cL_law 2255 = .ok (.aload_n 1, 1) := dk_43 (dk_at dksL_law_86 1 rfl rfl)
theorem dL_law_2256 : decode cL_law 2256 = .ok (.invokevirtual 316, 3) := dk_182 1 60 (dk_at dksL_law_86 2 rfl rfl)
theorem dL_law_2259 : decode cL_law 2259 = .ok (.aload_n 2, 1) := dk_44 (dk_at dksL_law_86 5 rfl rfl)
theorem dL_law_2260 : decode cL_law 2260 = .ok (.invokevirtual 319, 3) := dk_182 1 63 (dk_at dksL_law_86 6 rfl rfl)
theorem dL_law_2263 : decode cL_law 2263 = .ok (.if_icmp .eq 776, 3) := dk_159 3 8 (dk_at dksL_law_86 9 rfl rfl)
theorem dL_law_2266 : decode cL_law 2266 = .ok (.iconst 0, 1) := dk_3 (dk_at dksL_law_86 12 rfl rfl)
theorem dL_law_2267 : decode cL_law 2267 = .ok (.ireturn, 1) := dk_172 (dk_at dksL_law_86 13 rfl rfl)
theorem dL_law_2268 : decode cL_law 2268 = .ok (.aload_n 1, 1) := dk_43 (dk_at dksL_law_86 14 rfl rfl)
theorem dL_law_2269 : decode cL_law 2269 = .ok (.invokevirtual 320, 3) := dk_182 1 64 (dk_at dksL_law_86 15 rfl rfl)
theorem dL_law_2272 : decode cL_law 2272 = .ok (.aload_n 2, 1) := dk_44 (dk_at dksL_law_86 18 rfl rfl)
theorem dL_law_2273 : decode cL_law 2273 = .ok (.invokevirtual 323, 3) := dk_182 1 67 (dk_at dksL_law_86 19 rfl rfl)
theorem dL_law_2276 : decode cL_law 2276 = .ok (.if_icmp .eq 763, 3) := dk_159 2 251 (dk_at dksL_law_87 0 rfl rfl)
theorem dL_law_2279 : decode cL_law 2279 = .ok (.iconst 0, 1) := dk_3 (dk_at dksL_law_87 3 rfl rfl)
theorem dL_law_2280 : decode cL_law 2280 = .ok (.ireturn, 1) := dk_172 (dk_at dksL_law_87 4 rfl rfl)
theorem dL_law_2281 : decode cL_law 2281 = .ok (.aload_n 1, 1) := dk_43 (dk_at dksL_law_87 5 rfl rfl)
theorem dL_law_2282 : decode cL_law 2282 = .ok (.invokevirtual 324, 3) := dk_182 1 68 (dk_at dksL_law_87 6 rfl rfl)
theorem dL_law_2285 : decode cL_law 2285 = .ok (.aload_n 2, 1) := dk_44 (dk_at dksL_law_87 9 rfl rfl)
theorem dL_law_2286 : decode cL_law 2286 = .ok (.invokevirtual 327, 3) := dk_182 1 71 (dk_at dksL_law_87 10 rfl rfl)
theorem dL_law_2289 : decode cL_law 2289 = .ok (.if_icmp .eq 750, 3) := dk_159 2 238 (dk_at dksL_law_87 13 rfl rfl)
theorem dL_law_2292 : decode cL_law 2292 = .ok (.iconst 0, 1) := dk_3 (dk_at dksL_law_87 16 rfl rfl)
theorem dL_law_2293 : decode cL_law 2293 = .ok (.ireturn, 1) := dk_172 (dk_at dksL_law_87 17 rfl rfl)
theorem dL_law_2294 : decode cL_law 2294 = .ok (.aload_n 1, 1) := dk_43 (dk_at dksL_law_87 18 rfl rfl)
theorem dL_law_2295 : decode cL_law 2295 = .ok (.invokevirtual 328, 3) := dk_182 1 72 (dk_at dksL_law_87 19 rfl rfl)
theorem dL_law_2298 : decode cL_law 2298 = .ok (.aload_n 2, 1) := dk_44 (dk_at dksL_law_87 22 rfl rfl)
theorem dL_law_2299 : decode cL_law 2299 = .ok (.invokevirtual 331, 3) := dk_182 1 75 (dk_at dksL_law_88 0 rfl rfl)
theorem dL_law_2302 : decode cL_law 2302 = .ok (.if_icmp .eq 737, 3) := dk_159 2 225 (dk_at dksL_law_88 3 rfl rfl)
theorem dL_law_2305 : decode cL_law 2305 = .ok (.iconst 0, 1) := dk_3 (dk_at dksL_law_88 6 rfl rfl)
theorem dL_law_2306 : decode cL_law 2306 = .ok (.ireturn, 1) := dk_172 (dk_at dksL_law_88 7 rfl rfl)
theorem dL_law_2307 : decode cL_law 2307 = .ok (.aload_n 1, 1) := dk_43 (dk_at dksL_law_88 8 rfl rfl)
theorem dL_law_2308 : decode cL_law 2308 = .ok (.aload_n 0, 1) := dk_42 (dk_at dksL_law_88 9 rfl rfl)
theorem dL_law_2309 : decode cL_law 2309 = .ok (.iload 4, 2) := dk_21 4 (dk_at dksL_law_88 10 rfl rfl)
theorem dL_law_2311 : decode cL_law 2311 = .ok (.iconst 1, 1) := dk_4 (dk_at dksL_law_88 12 rfl rfl)
theorem dL_law_2312 : decode cL_law 2312 = .ok (.iadd, 1) := dk_96 (dk_at dksL_law_88 13 rfl rfl)
theorem dL_law_2313 : decode cL_law 2313 = .ok (.iaload, 1) := dk_46 (dk_at dksL_law_88 14 rfl rfl)
theorem dL_law_2314 : decode cL_law 2314 = .ok (.aload_n 0, 1) := dk_42 (dk_at dksL_law_88 15 rfl rfl)
theorem dL_law_2315 : decode cL_law 2315 = .ok (.iload 4, 2) := dk_21 4 (dk_at dksL_law_88 16 rfl rfl)
theorem dL_law_2317 : decode cL_law 2317 = .ok (.iconst 2, 1) := dk_5 (dk_at dksL_law_88 18 rfl rfl)
theorem dL_law_2318 : decode cL_law 2318 = .ok (.iadd, 1) := dk_96 (dk_at dksL_law_88 19 rfl rfl)
theorem dL_law_2319 : decode cL_law 2319 = .ok (.iaload, 1) := dk_46 (dk_at dksL_law_88 20 rfl rfl)
theorem dL_law_2320 : decode cL_law 2320 = .ok (.aload_n 3, 1) := dk_45 (dk_at dksL_law_88 21 rfl rfl)
theorem dL_law_2321 : decode cL_law 2321 = .ok (.invokestatic 332, 3) := dk_184 1 76 (dk_at dksL_law_89 0 rfl rfl)
theorem dL_law_2324 : decode cL_law 2324 = .ok (.istore 5, 2) := dk_54 5 (dk_at dksL_law_89 3 rfl rfl)
theorem dL_law_2326 : decode cL_law 2326 = .ok (.aload_n 2, 1) := dk_44 (dk_at dksL_law_89 5 rfl rfl)
theorem dL_law_2327 : decode cL_law 2327 = .ok (.aload_n 0, 1) := dk_42 (dk_at dksL_law_89 6 rfl rfl)
theorem dL_law_2328 : decode cL_law 2328 = .ok (.iload 4, 2) := dk_21 4 (dk_at dksL_law_89 7 rfl rfl)
theorem dL_law_2330 : decode cL_law 2330 = .ok (.iconst 1, 1) := dk_4 (dk_at dksL_law_89 9 rfl rfl)
theorem dL_law_2331 : decode cL_law 2331 = .ok (.iadd, 1) := dk_96 (dk_at dksL_law_89 10 rfl rfl)
theorem dL_law_2332 : decode cL_law 2332 = .ok (.iaload, 1) := dk_46 (dk_at dksL_law_89 11 rfl rfl)
theorem dL_law_2333 : decode cL_law 2333 = .ok (.aload_n 0, 1) := dk_42 (dk_at dksL_law_89 12 rfl rfl)
theorem dL_law_2334 : decode cL_law 2334 = .ok (.iload 4, 2) := dk_21 4 (dk_at dksL_law_89 13 rfl rfl)
theorem dL_law_2336 : decode cL_law 2336 = .ok (.iconst 2, 1) := dk_5 (dk_at dksL_law_89 15 rfl rfl)
theorem dL_law_2337 : decode cL_law 2337 = .ok (.iadd, 1) := dk_96 (dk_at dksL_law_89 16 rfl rfl)
theorem dL_law_2338 : decode cL_law 2338 = .ok (.iaload, 1) := dk_46 (dk_at dksL_law_89 17 rfl rfl)
theorem dL_law_2339 : decode cL_law 2339 = .ok (.invokevirtual 334, 3) := dk_182 1 78 (dk_at dksL_law_89 18 rfl rfl)
theorem dL_law_2342 : decode cL_law 2342 = .ok (.istore 6, 2) := dk_54 6 (dk_at dksL_law_89 21 rfl rfl)
theorem dL_law_2344 : decode cL_law 2344 = .ok (.aload_n 2, 1) := dk_44 (dk_at dksL_law_89 23 rfl rfl)
theorem dL_law_2345 : decode cL_law 2345 = .ok (.invokevirtual 145, 3) := dk_182 0 145 (dk_at dksL_law_90 0 rfl rfl)
theorem dL_law_2348 : decode cL_law 2348 = .ok (.iload 5, 2) := dk_21 5 (dk_at dksL_law_90 3 rfl rfl)
theorem dL_law_2350 : decode cL_law 2350 = .ok (.if_icmp .eq 5, 3) := dk_159 0 5 (dk_at dksL_law_90 5 rfl rfl)
theorem dL_law_2353 : decode cL_law 2353 = .ok (.iconst 0, 1) := dk_3 (dk_at dksL_law_90 8 rfl rfl)
theorem dL_law_2354 : decode cL_law 2354 = .ok (.ireturn, 1) := dk_172 (dk_at dksL_law_90 9 rfl rfl)
theorem dL_law_2355 : decode cL_law 2355 = .ok (.iload 5, 2) := dk_21 5 (dk_at dksL_law_90 10 rfl rfl)
theorem dL_law_2357 : decode cL_law 2357 = .ok (.ifCond .ne 22, 3) := dk_154 0 22 (dk_at dksL_law_90 12 rfl rfl)
theorem dL_law_2360 : decode cL_law 2360 = .ok (.aload_n 3, 1) := dk_45 (dk_at dksL_law_90 15 rfl rfl)
theorem dL_law_2361 : decode cL_law 2361 = .ok (.iconst 0, 1) := dk_3 (dk_at dksL_law_90 16 rfl rfl)
theorem dL_law_2362 : decode cL_law 2362 = .ok (.laload, 1) := dk_47 (dk_at dksL_law_90 17 rfl rfl)
theorem dL_law_2363 : decode cL_law 2363 = .ok (.iload 6, 2) := dk_21 6 (dk_at dksL_law_90 18 rfl rfl)
theorem dL_law_2365 : decode cL_law 2365 = .ok (.ifCond .eq 7, 3) := dk_153 0 7 (dk_at dksL_law_90 20 rfl rfl)
theorem dL_law_2368 : decode cL_law 2368 = .ok (.lconst 1, 1) := dk_10 (dk_at dksL_law_90 23 rfl rfl)
theorem dL_law_2369 : decode cL_law 2369 = .ok (.goto 4, 3) := dk_167 0 4 (dk_at dksL_law_91 0 rfl rfl)
theorem dL_law_2372 : decode cL_law 2372 = .ok (.lconst 0, 1) := dk_9 (dk_at dksL_law_91 3 rfl rfl)
theorem dL_law_2373 : decode cL_law 2373 = .ok (.lcmp, 1) := dk_148 (dk_at dksL_law_91 4 rfl rfl)
theorem dL_law_2374 : decode cL_law 2374 = .ok (.ifCond .eq 5, 3) := dk_153 0 5 (dk_at dksL_law_91 5 rfl rfl)
theorem dL_law_2377 : decode cL_law 2377 = .ok (.iconst 0, 1) := dk_3 (dk_at dksL_law_91 8 rfl rfl)
theorem dL_law_2378 : decode cL_law 2378 = .ok (.ireturn, 1) := dk_172 (dk_at dksL_law_91 9 rfl rfl)
theorem dL_law_2379 : decode cL_law 2379 = .ok (.goto 660, 3) := dk_167 2 148 (dk_at dksL_law_91 10 rfl rfl)
theorem dL_law_2382 : decode cL_law 2382 = .ok (.aload_n 1, 1) := dk_43 (dk_at dksL_law_91 13 rfl rfl)
theorem dL_law_2383 : decode cL_law 2383 = .ok (.aload_n 0, 1) := dk_42 (dk_at dksL_law_91 14 rfl rfl)
theorem dL_law_2384 : decode cL_law 2384 = .ok (.iload 4, 2) := dk_21 4 (dk_at dksL_law_91 15 rfl rfl)
theorem dL_law_2386 : decode cL_law 2386 = .ok (.iconst 1, 1) := dk_4 (dk_at dksL_law_91 17 rfl rfl)
theorem dL_law_2387 : decode cL_law 2387 = .ok (.iadd, 1) := dk_96 (dk_at dksL_law_91 18 rfl rfl)
theorem dL_law_2388 : decode cL_law 2388 = .ok (.iaload, 1) := dk_46 (dk_at dksL_law_91 19 rfl rfl)
theorem dL_law_2389 : decode cL_law 2389 = .ok (.aload_n 0, 1) := dk_42 (dk_at dksL_law_91 20 rfl rfl)
theorem dL_law_2390 : decode cL_law 2390 = .ok (.iload 4, 2) := dk_21 4 (dk_at dksL_law_91 21 rfl rfl)
theorem dL_law_2392 : decode cL_law 2392 = .ok (.iconst 2, 1) := dk_5 (dk_at dksL_law_91 23 rfl rfl)
theorem dL_law_2393 : decode cL_law 2393 = .ok (.iadd, 1) := dk_96 (dk_at dksL_law_92 0 rfl rfl)
theorem dL_law_2394 : decode cL_law 2394 = .ok (.iaload, 1) := dk_46 (dk_at dksL_law_92 1 rfl rfl)
theorem dL_law_2395 : decode cL_law 2395 = .ok (.aload_n 3, 1) := dk_45 (dk_at dksL_law_92 2 rfl rfl)
theorem dL_law_2396 : decode cL_law 2396 = .ok (.invokestatic 335, 3) := dk_184 1 79 (dk_at dksL_law_92 3 rfl rfl)
theorem dL_law_2399 : decode cL_law 2399 = .ok (.istore 5, 2) := dk_54 5 (dk_at dksL_law_92 6 rfl rfl)
theorem dL_law_2401 : decode cL_law 2401 = .ok (.aload_n 2, 1) := dk_44 (dk_at dksL_law_92 8 rfl rfl)
theorem dL_law_2402 : decode cL_law 2402 = .ok (.aload_n 0, 1) := dk_42 (dk_at dksL_law_92 9 rfl rfl)
theorem dL_law_2403 : decode cL_law 2403 = .ok (.iload 4, 2) := dk_21 4 (dk_at dksL_law_92 10 rfl rfl)
theorem dL_law_2405 : decode cL_law 2405 = .ok (.iconst 1, 1) := dk_4 (dk_at dksL_law_92 12 rfl rfl)
theorem dL_law_2406 : decode cL_law 2406 = .ok (.iadd, 1) := dk_96 (dk_at dksL_law_92 13 rfl rfl)
theorem dL_law_2407 : decode cL_law 2407 = .ok (.iaload, 1) := dk_46 (dk_at dksL_law_92 14 rfl rfl)
theorem dL_law_2408 : decode cL_law 2408 = .ok (.aload_n 0, 1) := dk_42 (dk_at dksL_law_92 15 rfl rfl)
theorem dL_law_2409 : decode cL_law 2409 = .ok (.iload 4, 2) := dk_21 4 (dk_at dksL_law_92 16 rfl rfl)
theorem dL_law_2411 : decode cL_law 2411 = .ok (.iconst 2, 1) := dk_5 (dk_at dksL_law_92 18 rfl rfl)
theorem dL_law_2412 : decode cL_law 2412 = .ok (.iadd, 1) := dk_96 (dk_at dksL_law_92 19 rfl rfl)
theorem dL_law_2413 : decode cL_law 2413 = .ok (.iaload, 1) := dk_46 (dk_at dksL_law_92 20 rfl rfl)
theorem dL_law_2414 : decode cL_law 2414 = .ok (.invokevirtual 337, 3) := dk_182 1 81 (dk_at dksL_law_92 21 rfl rfl)
theorem dL_law_2417 : decode cL_law 2417 = .ok (.istore 6, 2) := dk_54 6 (dk_at dksL_law_93 0 rfl rfl)
theorem dL_law_2419 : decode cL_law 2419 = .ok (.aload_n 2, 1) := dk_44 (dk_at dksL_law_93 2 rfl rfl)
theorem dL_law_2420 : decode cL_law 2420 = .ok (.invokevirtual 145, 3) := dk_182 0 145 (dk_at dksL_law_93 3 rfl rfl)
theorem dL_law_2423 : decode cL_law 2423 = .ok (.iload 5, 2) := dk_21 5 (dk_at dksL_law_93 6 rfl rfl)
theorem dL_law_2425 : decode cL_law 2425 = .ok (.if_icmp .eq 5, 3) := dk_159 0 5 (dk_at dksL_law_93 8 rfl rfl)
theorem dL_law_2428 : decode cL_law 2428 = .ok (.iconst 0, 1) := dk_3 (dk_at dksL_law_93 11 rfl rfl)
theorem dL_law_2429 : decode cL_law 2429 = .ok (.ireturn, 1) := dk_172 (dk_at dksL_law_93 12 rfl rfl)
theorem dL_law_2430 : decode cL_law 2430 = .ok (.iload 5, 2) := dk_21 5 (dk_at dksL_law_93 13 rfl rfl)
theorem dL_law_2432 : decode cL_law 2432 = .ok (.ifCond .ne 15, 3) := dk_154 0 15 (dk_at dksL_law_93 15 rfl rfl)
theorem dL_law_2435 : decode cL_law 2435 = .ok (.aload_n 3, 1) := dk_45 (dk_at dksL_law_93 18 rfl rfl)
theorem dL_law_2436 : decode cL_law 2436 = .ok (.iconst 0, 1) := dk_3 (dk_at dksL_law_93 19 rfl rfl)
theorem dL_law_2437 : decode cL_law 2437 = .ok (.laload, 1) := dk_47 (dk_at dksL_law_93 20 rfl rfl)
theorem dL_law_2438 : decode cL_law 2438 = .ok (.iload 6, 2) := dk_21 6 (dk_at dksL_law_93 21 rfl rfl)
theorem dL_law_2440 : decode cL_law 2440 = .ok (.i2l, 1) := dk_133 (dk_at dksL_law_93 23 rfl rfl)
theorem dL_law_2441 : decode cL_law 2441 = .ok (.lcmp, 1) := dk_148 (dk_at dksL_law_94 0 rfl rfl)
theorem dL_law_2442 : decode cL_law 2442 = .ok (.ifCond .eq 5, 3) := dk_153 0 5 (dk_at dksL_law_94 1 rfl rfl)
theorem dL_law_2445 : decode cL_law 2445 = .ok (.iconst 0, 1) := dk_3 (dk_at dksL_law_94 4 rfl rfl)
theorem dL_law_2446 : decode cL_law 2446 = .ok (.ireturn, 1) := dk_172 (dk_at dksL_law_94 5 rfl rfl)
theorem dL_law_2447 : decode cL_law 2447 = .ok (.goto 592, 3) := dk_167 2 80 (dk_at dksL_law_94 6 rfl rfl)
theorem dL_law_2450 : decode cL_law 2450 = .ok (.aload_n 1, 1) := dk_43 (dk_at dksL_law_94 9 rfl rfl)
theorem dL_law_2451 : decode cL_law 2451 = .ok (.aload_n 0, 1) := dk_42 (dk_at dksL_law_94 10 rfl rfl)
theorem dL_law_2452 : decode cL_law 2452 = .ok (.iload 4, 2) := dk_21 4 (dk_at dksL_law_94 11 rfl rfl)
theorem dL_law_2454 : decode cL_law 2454 = .ok (.iconst 1, 1) := dk_4 (dk_at dksL_law_94 13 rfl rfl)
theorem dL_law_2455 : decode cL_law 2455 = .ok (.iadd, 1) := dk_96 (dk_at dksL_law_94 14 rfl rfl)
theorem dL_law_2456 : decode cL_law 2456 = .ok (.iaload, 1) := dk_46 (dk_at dksL_law_94 15 rfl rfl)
theorem dL_law_2457 : decode cL_law 2457 = .ok (.aload_n 0, 1) := dk_42 (dk_at dksL_law_94 16 rfl rfl)
theorem dL_law_2458 : decode cL_law 2458 = .ok (.iload 4, 2) := dk_21 4 (dk_at dksL_law_94 17 rfl rfl)
theorem dL_law_2460 : decode cL_law 2460 = .ok (.iconst 2, 1) := dk_5 (dk_at dksL_law_94 19 rfl rfl)
theorem dL_law_2461 : decode cL_law 2461 = .ok (.iadd, 1) := dk_96 (dk_at dksL_law_94 20 rfl rfl)
theorem dL_law_2462 : decode cL_law 2462 = .ok (.iaload, 1) := dk_46 (dk_at dksL_law_94 21 rfl rfl)
theorem dL_law_2463 : decode cL_law 2463 = .ok (.aload_n 3, 1) := dk_45 (dk_at dksL_law_94 22 rfl rfl)
theorem dL_law_2464 : decode cL_law 2464 = .ok (.invokestatic 338, 3) := dk_184 1 82 (dk_at dksL_law_95 0 rfl rfl)
theorem dL_law_2467 : decode cL_law 2467 = .ok (.istore 5, 2) := dk_54 5 (dk_at dksL_law_95 3 rfl rfl)
theorem dL_law_2469 : decode cL_law 2469 = .ok (.aload_n 2, 1) := dk_44 (dk_at dksL_law_95 5 rfl rfl)
theorem dL_law_2470 : decode cL_law 2470 = .ok (.aload_n 0, 1) := dk_42 (dk_at dksL_law_95 6 rfl rfl)
theorem dL_law_2471 : decode cL_law 2471 = .ok (.iload 4, 2) := dk_21 4 (dk_at dksL_law_95 7 rfl rfl)
theorem dL_law_2473 : decode cL_law 2473 = .ok (.iconst 1, 1) := dk_4 (dk_at dksL_law_95 9 rfl rfl)
theorem dL_law_2474 : decode cL_law 2474 = .ok (.iadd, 1) := dk_96 (dk_at dksL_law_95 10 rfl rfl)
theorem dL_law_2475 : decode cL_law 2475 = .ok (.iaload, 1) := dk_46 (dk_at dksL_law_95 11 rfl rfl)
theorem dL_law_2476 : decode cL_law 2476 = .ok (.aload_n 0, 1) := dk_42 (dk_at dksL_law_95 12 rfl rfl)
theorem dL_law_2477 : decode cL_law 2477 = .ok (.iload 4, 2) := dk_21 4 (dk_at dksL_law_95 13 rfl rfl)
theorem dL_law_2479 : decode cL_law 2479 = .ok (.iconst 2, 1) := dk_5 (dk_at dksL_law_95 15 rfl rfl)
theorem dL_law_2480 : decode cL_law 2480 = .ok (.iadd, 1) := dk_96 (dk_at dksL_law_95 16 rfl rfl)
theorem dL_law_2481 : decode cL_law 2481 = .ok (.iaload, 1) := dk_46 (dk_at dksL_law_95 17 rfl rfl)
theorem dL_law_2482 : decode cL_law 2482 = .ok (.invokevirtual 340, 3) := dk_182 1 84 (dk_at dksL_law_95 18 rfl rfl)
theorem dL_law_2485 : decode cL_law 2485 = .ok (.istore 6, 2) := dk_54 6 (dk_at dksL_law_95 21 rfl rfl)
theorem dL_law_2487 : decode cL_law 2487 = .ok (.aload_n 2, 1) := dk_44 (dk_at dksL_law_95 23 rfl rfl)
theorem dL_law_2488 : decode cL_law 2488 = .ok (.invokevirtual 145, 3) := dk_182 0 145 (dk_at dksL_law_96 0 rfl rfl)
theorem dL_law_2491 : decode cL_law 2491 = .ok (.iload 5, 2) := dk_21 5 (dk_at dksL_law_96 3 rfl rfl)
theorem dL_law_2493 : decode cL_law 2493 = .ok (.if_icmp .eq 5, 3) := dk_159 0 5 (dk_at dksL_law_96 5 rfl rfl)
theorem dL_law_2496 : decode cL_law 2496 = .ok (.iconst 0, 1) := dk_3 (dk_at dksL_law_96 8 rfl rfl)
theorem dL_law_2497 : decode cL_law 2497 = .ok (.ireturn, 1) := dk_172 (dk_at dksL_law_96 9 rfl rfl)
theorem dL_law_2498 : decode cL_law 2498 = .ok (.iload 5, 2) := dk_21 5 (dk_at dksL_law_96 10 rfl rfl)
theorem dL_law_2500 : decode cL_law 2500 = .ok (.ifCond .ne 15, 3) := dk_154 0 15 (dk_at dksL_law_96 12 rfl rfl)
theorem dL_law_2503 : decode cL_law 2503 = .ok (.aload_n 3, 1) := dk_45 (dk_at dksL_law_96 15 rfl rfl)
theorem dL_law_2504 : decode cL_law 2504 = .ok (.iconst 0, 1) := dk_3 (dk_at dksL_law_96 16 rfl rfl)
theorem dL_law_2505 : decode cL_law 2505 = .ok (.laload, 1) := dk_47 (dk_at dksL_law_96 17 rfl rfl)
theorem dL_law_2506 : decode cL_law 2506 = .ok (.iload 6, 2) := dk_21 6 (dk_at dksL_law_96 18 rfl rfl)
theorem dL_law_2508 : decode cL_law 2508 = .ok (.i2l, 1) := dk_133 (dk_at dksL_law_96 20 rfl rfl)
theorem dL_law_2509 : decode cL_law 2509 = .ok (.lcmp, 1) := dk_148 (dk_at dksL_law_96 21 rfl rfl)
theorem dL_law_2510 : decode cL_law 2510 = .ok (.ifCond .eq 5, 3) := dk_153 0 5 (dk_at dksL_law_97 0 rfl rfl)
theorem dL_law_2513 : decode cL_law 2513 = .ok (.iconst 0, 1) := dk_3 (dk_at dksL_law_97 3 rfl rfl)
theorem dL_law_2514 : decode cL_law 2514 = .ok (.ireturn, 1) := dk_172 (dk_at dksL_law_97 4 rfl rfl)
theorem dL_law_2515 : decode cL_law 2515 = .ok (.goto 524, 3) := dk_167 2 12 (dk_at dksL_law_97 5 rfl rfl)
theorem dL_law_2518 : decode cL_law 2518 = .ok (.aload_n 1, 1) := dk_43 (dk_at dksL_law_97 8 rfl rfl)
theorem dL_law_2519 : decode cL_law 2519 = .ok (.aload_n 0, 1) := dk_42 (dk_at dksL_law_97 9 rfl rfl)
theorem dL_law_2520 : decode cL_law 2520 = .ok (.iload 4, 2) := dk_21 4 (dk_at dksL_law_97 10 rfl rfl)
theorem dL_law_2522 : decode cL_law 2522 = .ok (.iconst 1, 1) := dk_4 (dk_at dksL_law_97 12 rfl rfl)
theorem dL_law_2523 : decode cL_law 2523 = .ok (.iadd, 1) := dk_96 (dk_at dksL_law_97 13 rfl rfl)
theorem dL_law_2524 : decode cL_law 2524 = .ok (.iaload, 1) := dk_46 (dk_at dksL_law_97 14 rfl rfl)
theorem dL_law_2525 : decode cL_law 2525 = .ok (.aload_n 0, 1) := dk_42 (dk_at dksL_law_97 15 rfl rfl)
theorem dL_law_2526 : decode cL_law 2526 = .ok (.iload 4, 2) := dk_21 4 (dk_at dksL_law_97 16 rfl rfl)
theorem dL_law_2528 : decode cL_law 2528 = .ok (.iconst 2, 1) := dk_5 (dk_at dksL_law_97 18 rfl rfl)
theorem dL_law_2529 : decode cL_law 2529 = .ok (.iadd, 1) := dk_96 (dk_at dksL_law_97 19 rfl rfl)
theorem dL_law_2530 : decode cL_law 2530 = .ok (.iaload, 1) := dk_46 (dk_at dksL_law_97 20 rfl rfl)
theorem dL_law_2531 : decode cL_law 2531 = .ok (.aload_n 3, 1) := dk_45 (dk_at dksL_law_97 21 rfl rfl)
theorem dL_law_2532 : decode cL_law 2532 = .ok (.invokestatic 341, 3) := dk_184 1 85 (dk_at dksL_law_98 0 rfl rfl)
theorem dL_law_2535 : decode cL_law 2535 = .ok (.istore 5, 2) := dk_54 5 (dk_at dksL_law_98 3 rfl rfl)
theorem dL_law_2537 : decode cL_law 2537 = .ok (.aload_n 2, 1) := dk_44 (dk_at dksL_law_98 5 rfl rfl)
theorem dL_law_2538 : decode cL_law 2538 = .ok (.aload_n 0, 1) := dk_42 (dk_at dksL_law_98 6 rfl rfl)
theorem dL_law_2539 : decode cL_law 2539 = .ok (.iload 4, 2) := dk_21 4 (dk_at dksL_law_98 7 rfl rfl)
theorem dL_law_2541 : decode cL_law 2541 = .ok (.iconst 1, 1) := dk_4 (dk_at dksL_law_98 9 rfl rfl)
theorem dL_law_2542 : decode cL_law 2542 = .ok (.iadd, 1) := dk_96 (dk_at dksL_law_98 10 rfl rfl)
theorem dL_law_2543 : decode cL_law 2543 = .ok (.iaload, 1) := dk_46 (dk_at dksL_law_98 11 rfl rfl)
theorem dL_law_2544 : decode cL_law 2544 = .ok (.aload_n 0, 1) := dk_42 (dk_at dksL_law_98 12 rfl rfl)
theorem dL_law_2545 : decode cL_law 2545 = .ok (.iload 4, 2) := dk_21 4 (dk_at dksL_law_98 13 rfl rfl)
theorem dL_law_2547 : decode cL_law 2547 = .ok (.iconst 2, 1) := dk_5 (dk_at dksL_law_98 15 rfl rfl)
theorem dL_law_2548 : decode cL_law 2548 = .ok (.iadd, 1) := dk_96 (dk_at dksL_law_98 16 rfl rfl)
theorem dL_law_2549 : decode cL_law 2549 = .ok (.iaload, 1) := dk_46 (dk_at dksL_law_98 17 rfl rfl)
theorem dL_law_2550 : decode cL_law 2550 = .ok (.invokevirtual 343, 3) := dk_182 1 87 (dk_at dksL_law_98 18 rfl rfl)
theorem dL_law_2553 : decode cL_law 2553 = .ok (.istore 6, 2) := dk_54 6 (dk_at dksL_law_98 21 rfl rfl)
theorem dL_law_2555 : decode cL_law 2555 = .ok (.aload_n 2, 1) := dk_44 (dk_at dksL_law_98 23 rfl rfl)
theorem dL_law_2556 : decode cL_law 2556 = .ok (.invokevirtual 145, 3) := dk_182 0 145 (dk_at dksL_law_99 0 rfl rfl)
theorem dL_law_2559 : decode cL_law 2559 = .ok (.iload 5, 2) := dk_21 5 (dk_at dksL_law_99 3 rfl rfl)
theorem dL_law_2561 : decode cL_law 2561 = .ok (.if_icmp .eq 5, 3) := dk_159 0 5 (dk_at dksL_law_99 5 rfl rfl)
theorem dL_law_2564 : decode cL_law 2564 = .ok (.iconst 0, 1) := dk_3 (dk_at dksL_law_99 8 rfl rfl)
theorem dL_law_2565 : decode cL_law 2565 = .ok (.ireturn, 1) := dk_172 (dk_at dksL_law_99 9 rfl rfl)
theorem dL_law_2566 : decode cL_law 2566 = .ok (.iload 5, 2) := dk_21 5 (dk_at dksL_law_99 10 rfl rfl)
theorem dL_law_2568 : decode cL_law 2568 = .ok (.ifCond .ne 15, 3) := dk_154 0 15 (dk_at dksL_law_99 12 rfl rfl)
theorem dL_law_2571 : decode cL_law 2571 = .ok (.aload_n 3, 1) := dk_45 (dk_at dksL_law_99 15 rfl rfl)
theorem dL_law_2572 : decode cL_law 2572 = .ok (.iconst 0, 1) := dk_3 (dk_at dksL_law_99 16 rfl rfl)
theorem dL_law_2573 : decode cL_law 2573 = .ok (.laload, 1) := dk_47 (dk_at dksL_law_99 17 rfl rfl)
theorem dL_law_2574 : decode cL_law 2574 = .ok (.iload 6, 2) := dk_21 6 (dk_at dksL_law_99 18 rfl rfl)
theorem dL_law_2576 : decode cL_law 2576 = .ok (.i2l, 1) := dk_133 (dk_at dksL_law_99 20 rfl rfl)
theorem dL_law_2577 : decode cL_law 2577 = .ok (.lcmp, 1) := dk_148 (dk_at dksL_law_99 21 rfl rfl)
theorem dL_law_2578 : decode cL_law 2578 = .ok (.ifCond .eq 5, 3) := dk_153 0 5 (dk_at dksL_law_100 0 rfl rfl)
theorem dL_law_2581 : decode cL_law 2581 = .ok (.iconst 0, 1) := dk_3 (dk_at dksL_law_100 3 rfl rfl)
theorem dL_law_2582 : decode cL_law 2582 = .ok (.ireturn, 1) := dk_172 (dk_at dksL_law_100 4 rfl rfl)
theorem dL_law_2583 : decode cL_law 2583 = .ok (.goto 456, 3) := dk_167 1 200 (dk_at dksL_law_100 5 rfl rfl)
theorem dL_law_2586 : decode cL_law 2586 = .ok (.aload_n 1, 1) := dk_43 (dk_at dksL_law_100 8 rfl rfl)
theorem dL_law_2587 : decode cL_law 2587 = .ok (.aload_n 0, 1) := dk_42 (dk_at dksL_law_100 9 rfl rfl)
theorem dL_law_2588 : decode cL_law 2588 = .ok (.iload 4, 2) := dk_21 4 (dk_at dksL_law_100 10 rfl rfl)
theorem dL_law_2590 : decode cL_law 2590 = .ok (.iconst 1, 1) := dk_4 (dk_at dksL_law_100 12 rfl rfl)
theorem dL_law_2591 : decode cL_law 2591 = .ok (.iadd, 1) := dk_96 (dk_at dksL_law_100 13 rfl rfl)
theorem dL_law_2592 : decode cL_law 2592 = .ok (.iaload, 1) := dk_46 (dk_at dksL_law_100 14 rfl rfl)
theorem dL_law_2593 : decode cL_law 2593 = .ok (.aload_n 0, 1) := dk_42 (dk_at dksL_law_100 15 rfl rfl)
theorem dL_law_2594 : decode cL_law 2594 = .ok (.iload 4, 2) := dk_21 4 (dk_at dksL_law_100 16 rfl rfl)
theorem dL_law_2596 : decode cL_law 2596 = .ok (.iconst 2, 1) := dk_5 (dk_at dksL_law_100 18 rfl rfl)
theorem dL_law_2597 : decode cL_law 2597 = .ok (.iadd, 1) := dk_96 (dk_at dksL_law_100 19 rfl rfl)
theorem dL_law_2598 : decode cL_law 2598 = .ok (.iaload, 1) := dk_46 (dk_at dksL_law_100 20 rfl rfl)
theorem dL_law_2599 : decode cL_law 2599 = .ok (.aload_n 3, 1) := dk_45 (dk_at dksL_law_100 21 rfl rfl)
theorem dL_law_2600 : decode cL_law 2600 = .ok (.invokestatic 344, 3) := dk_184 1 88 (dk_at dksL_law_101 0 rfl rfl)
theorem dL_law_2603 : decode cL_law 2603 = .ok (.istore 5, 2) := dk_54 5 (dk_at dksL_law_101 3 rfl rfl)
theorem dL_law_2605 : decode cL_law 2605 = .ok (.aload_n 2, 1) := dk_44 (dk_at dksL_law_101 5 rfl rfl)
theorem dL_law_2606 : decode cL_law 2606 = .ok (.aload_n 0, 1) := dk_42 (dk_at dksL_law_101 6 rfl rfl)
theorem dL_law_2607 : decode cL_law 2607 = .ok (.iload 4, 2) := dk_21 4 (dk_at dksL_law_101 7 rfl rfl)
theorem dL_law_2609 : decode cL_law 2609 = .ok (.iconst 1, 1) := dk_4 (dk_at dksL_law_101 9 rfl rfl)
theorem dL_law_2610 : decode cL_law 2610 = .ok (.iadd, 1) := dk_96 (dk_at dksL_law_101 10 rfl rfl)
theorem dL_law_2611 : decode cL_law 2611 = .ok (.iaload, 1) := dk_46 (dk_at dksL_law_101 11 rfl rfl)
theorem dL_law_2612 : decode cL_law 2612 = .ok (.aload_n 0, 1) := dk_42 (dk_at dksL_law_101 12 rfl rfl)
theorem dL_law_2613 : decode cL_law 2613 = .ok (.iload 4, 2) := dk_21 4 (dk_at dksL_law_101 13 rfl rfl)
theorem dL_law_2615 : decode cL_law 2615 = .ok (.iconst 2, 1) := dk_5 (dk_at dksL_law_101 15 rfl rfl)
theorem dL_law_2616 : decode cL_law 2616 = .ok (.iadd, 1) := dk_96 (dk_at dksL_law_101 16 rfl rfl)
theorem dL_law_2617 : decode cL_law 2617 = .ok (.iaload, 1) := dk_46 (dk_at dksL_law_101 17 rfl rfl)
theorem dL_law_2618 : decode cL_law 2618 = .ok (.invokevirtual 346, 3) := dk_182 1 90 (dk_at dksL_law_101 18 rfl rfl)
theorem dL_law_2621 : decode cL_law 2621 = .ok (.istore 6, 2) := dk_54 6 (dk_at dksL_law_101 21 rfl rfl)
theorem dL_law_2623 : decode cL_law 2623 = .ok (.aload_n 2, 1) := dk_44 (dk_at dksL_law_101 23 rfl rfl)
theorem dL_law_2624 : decode cL_law 2624 = .ok (.invokevirtual 145, 3) := dk_182 0 145 (dk_at dksL_law_102 0 rfl rfl)
theorem dL_law_2627 : decode cL_law 2627 = .ok (.iload 5, 2) := dk_21 5 (dk_at dksL_law_102 3 rfl rfl)
theorem dL_law_2629 : decode cL_law 2629 = .ok (.if_icmp .eq 5, 3) := dk_159 0 5 (dk_at dksL_law_102 5 rfl rfl)
theorem dL_law_2632 : decode cL_law 2632 = .ok (.iconst 0, 1) := dk_3 (dk_at dksL_law_102 8 rfl rfl)
theorem dL_law_2633 : decode cL_law 2633 = .ok (.ireturn, 1) := dk_172 (dk_at dksL_law_102 9 rfl rfl)
theorem dL_law_2634 : decode cL_law 2634 = .ok (.iload 5, 2) := dk_21 5 (dk_at dksL_law_102 10 rfl rfl)
theorem dL_law_2636 : decode cL_law 2636 = .ok (.ifCond .ne 15, 3) := dk_154 0 15 (dk_at dksL_law_102 12 rfl rfl)
theorem dL_law_2639 : decode cL_law 2639 = .ok (.aload_n 3, 1) := dk_45 (dk_at dksL_law_102 15 rfl rfl)
theorem dL_law_2640 : decode cL_law 2640 = .ok (.iconst 0, 1) := dk_3 (dk_at dksL_law_102 16 rfl rfl)
theorem dL_law_2641 : decode cL_law 2641 = .ok (.laload, 1) := dk_47 (dk_at dksL_law_102 17 rfl rfl)
theorem dL_law_2642 : decode cL_law 2642 = .ok (.iload 6, 2) := dk_21 6 (dk_at dksL_law_102 18 rfl rfl)
theorem dL_law_2644 : decode cL_law 2644 = .ok (.i2l, 1) := dk_133 (dk_at dksL_law_102 20 rfl rfl)
theorem dL_law_2645 : decode cL_law 2645 = .ok (.lcmp, 1) := dk_148 (dk_at dksL_law_102 21 rfl rfl)
theorem dL_law_2646 : decode cL_law 2646 = .ok (.ifCond .eq 5, 3) := dk_153 0 5 (dk_at dksL_law_103 0 rfl rfl)
theorem dL_law_2649 : decode cL_law 2649 = .ok (.iconst 0, 1) := dk_3 (dk_at dksL_law_103 3 rfl rfl)
theorem dL_law_2650 : decode cL_law 2650 = .ok (.ireturn, 1) := dk_172 (dk_at dksL_law_103 4 rfl rfl)
theorem dL_law_2651 : decode cL_law 2651 = .ok (.goto 388, 3) := dk_167 1 132 (dk_at dksL_law_103 5 rfl rfl)
theorem dL_law_2654 : decode cL_law 2654 = .ok (.aload_n 1, 1) := dk_43 (dk_at dksL_law_103 8 rfl rfl)
theorem dL_law_2655 : decode cL_law 2655 = .ok (.aload_n 0, 1) := dk_42 (dk_at dksL_law_103 9 rfl rfl)
theorem dL_law_2656 : decode cL_law 2656 = .ok (.iload 4, 2) := dk_21 4 (dk_at dksL_law_103 10 rfl rfl)
theorem dL_law_2658 : decode cL_law 2658 = .ok (.iconst 1, 1) := dk_4 (dk_at dksL_law_103 12 rfl rfl)
theorem dL_law_2659 : decode cL_law 2659 = .ok (.iadd, 1) := dk_96 (dk_at dksL_law_103 13 rfl rfl)
theorem dL_law_2660 : decode cL_law 2660 = .ok (.iaload, 1) := dk_46 (dk_at dksL_law_103 14 rfl rfl)
theorem dL_law_2661 : decode cL_law 2661 = .ok (.aload_n 0, 1) := dk_42 (dk_at dksL_law_103 15 rfl rfl)
theorem dL_law_2662 : decode cL_law 2662 = .ok (.iload 4, 2) := dk_21 4 (dk_at dksL_law_103 16 rfl rfl)
theorem dL_law_2664 : decode cL_law 2664 = .ok (.iconst 2, 1) := dk_5 (dk_at dksL_law_103 18 rfl rfl)
theorem dL_law_2665 : decode cL_law 2665 = .ok (.iadd, 1) := dk_96 (dk_at dksL_law_103 19 rfl rfl)
theorem dL_law_2666 : decode cL_law 2666 = .ok (.iaload, 1) := dk_46 (dk_at dksL_law_103 20 rfl rfl)
theorem dL_law_2667 : decode cL_law 2667 = .ok (.aload_n 3, 1) := dk_45 (dk_at dksL_law_103 21 rfl rfl)
theorem dL_law_2668 : decode cL_law 2668 = .ok (.invokestatic 347, 3) := dk_184 1 91 (dk_at dksL_law_104 0 rfl rfl)
theorem dL_law_2671 : decode cL_law 2671 = .ok (.istore 5, 2) := dk_54 5 (dk_at dksL_law_104 3 rfl rfl)
theorem dL_law_2673 : decode cL_law 2673 = .ok (.aload_n 2, 1) := dk_44 (dk_at dksL_law_104 5 rfl rfl)
theorem dL_law_2674 : decode cL_law 2674 = .ok (.aload_n 0, 1) := dk_42 (dk_at dksL_law_104 6 rfl rfl)
theorem dL_law_2675 : decode cL_law 2675 = .ok (.iload 4, 2) := dk_21 4 (dk_at dksL_law_104 7 rfl rfl)
theorem dL_law_2677 : decode cL_law 2677 = .ok (.iconst 1, 1) := dk_4 (dk_at dksL_law_104 9 rfl rfl)
theorem dL_law_2678 : decode cL_law 2678 = .ok (.iadd, 1) := dk_96 (dk_at dksL_law_104 10 rfl rfl)
theorem dL_law_2679 : decode cL_law 2679 = .ok (.iaload, 1) := dk_46 (dk_at dksL_law_104 11 rfl rfl)
theorem dL_law_2680 : decode cL_law 2680 = .ok (.aload_n 0, 1) := dk_42 (dk_at dksL_law_104 12 rfl rfl)
theorem dL_law_2681 : decode cL_law 2681 = .ok (.iload 4, 2) := dk_21 4 (dk_at dksL_law_104 13 rfl rfl)
theorem dL_law_2683 : decode cL_law 2683 = .ok (.iconst 2, 1) := dk_5 (dk_at dksL_law_104 15 rfl rfl)
theorem dL_law_2684 : decode cL_law 2684 = .ok (.iadd, 1) := dk_96 (dk_at dksL_law_104 16 rfl rfl)
theorem dL_law_2685 : decode cL_law 2685 = .ok (.iaload, 1) := dk_46 (dk_at dksL_law_104 17 rfl rfl)
theorem dL_law_2686 : decode cL_law 2686 = .ok (.invokevirtual 349, 3) := dk_182 1 93 (dk_at dksL_law_104 18 rfl rfl)
theorem dL_law_2689 : decode cL_law 2689 = .ok (.istore 6, 2) := dk_54 6 (dk_at dksL_law_104 21 rfl rfl)
theorem dL_law_2691 : decode cL_law 2691 = .ok (.aload_n 2, 1) := dk_44 (dk_at dksL_law_104 23 rfl rfl)
theorem dL_law_2692 : decode cL_law 2692 = .ok (.invokevirtual 145, 3) := dk_182 0 145 (dk_at dksL_law_105 0 rfl rfl)
theorem dL_law_2695 : decode cL_law 2695 = .ok (.iload 5, 2) := dk_21 5 (dk_at dksL_law_105 3 rfl rfl)
theorem dL_law_2697 : decode cL_law 2697 = .ok (.if_icmp .eq 5, 3) := dk_159 0 5 (dk_at dksL_law_105 5 rfl rfl)
theorem dL_law_2700 : decode cL_law 2700 = .ok (.iconst 0, 1) := dk_3 (dk_at dksL_law_105 8 rfl rfl)
theorem dL_law_2701 : decode cL_law 2701 = .ok (.ireturn, 1) := dk_172 (dk_at dksL_law_105 9 rfl rfl)
theorem dL_law_2702 : decode cL_law 2702 = .ok (.iload 5, 2) := dk_21 5 (dk_at dksL_law_105 10 rfl rfl)
theorem dL_law_2704 : decode cL_law 2704 = .ok (.ifCond .ne 15, 3) := dk_154 0 15 (dk_at dksL_law_105 12 rfl rfl)
theorem dL_law_2707 : decode cL_law 2707 = .ok (.aload_n 3, 1) := dk_45 (dk_at dksL_law_105 15 rfl rfl)
theorem dL_law_2708 : decode cL_law 2708 = .ok (.iconst 0, 1) := dk_3 (dk_at dksL_law_105 16 rfl rfl)
theorem dL_law_2709 : decode cL_law 2709 = .ok (.laload, 1) := dk_47 (dk_at dksL_law_105 17 rfl rfl)
theorem dL_law_2710 : decode cL_law 2710 = .ok (.iload 6, 2) := dk_21 6 (dk_at dksL_law_105 18 rfl rfl)
theorem dL_law_2712 : decode cL_law 2712 = .ok (.i2l, 1) := dk_133 (dk_at dksL_law_105 20 rfl rfl)
theorem dL_law_2713 : decode cL_law 2713 = .ok (.lcmp, 1) := dk_148 (dk_at dksL_law_105 21 rfl rfl)
theorem dL_law_2714 : decode cL_law 2714 = .ok (.ifCond .eq 5, 3) := dk_153 0 5 (dk_at dksL_law_106 0 rfl rfl)
theorem dL_law_2717 : decode cL_law 2717 = .ok (.iconst 0, 1) := dk_3 (dk_at dksL_law_106 3 rfl rfl)
theorem dL_law_2718 : decode cL_law 2718 = .ok (.ireturn, 1) := dk_172 (dk_at dksL_law_106 4 rfl rfl)
theorem dL_law_2719 : decode cL_law 2719 = .ok (.goto 320, 3) := dk_167 1 64 (dk_at dksL_law_106 5 rfl rfl)
theorem dL_law_2722 : decode cL_law 2722 = .ok (.aload_n 1, 1) := dk_43 (dk_at dksL_law_106 8 rfl rfl)
theorem dL_law_2723 : decode cL_law 2723 = .ok (.aload_n 0, 1) := dk_42 (dk_at dksL_law_106 9 rfl rfl)
theorem dL_law_2724 : decode cL_law 2724 = .ok (.iload 4, 2) := dk_21 4 (dk_at dksL_law_106 10 rfl rfl)
theorem dL_law_2726 : decode cL_law 2726 = .ok (.iconst 1, 1) := dk_4 (dk_at dksL_law_106 12 rfl rfl)
theorem dL_law_2727 : decode cL_law 2727 = .ok (.iadd, 1) := dk_96 (dk_at dksL_law_106 13 rfl rfl)
theorem dL_law_2728 : decode cL_law 2728 = .ok (.iaload, 1) := dk_46 (dk_at dksL_law_106 14 rfl rfl)
theorem dL_law_2729 : decode cL_law 2729 = .ok (.aload_n 0, 1) := dk_42 (dk_at dksL_law_106 15 rfl rfl)
theorem dL_law_2730 : decode cL_law 2730 = .ok (.iload 4, 2) := dk_21 4 (dk_at dksL_law_106 16 rfl rfl)
theorem dL_law_2732 : decode cL_law 2732 = .ok (.iconst 2, 1) := dk_5 (dk_at dksL_law_106 18 rfl rfl)
theorem dL_law_2733 : decode cL_law 2733 = .ok (.iadd, 1) := dk_96 (dk_at dksL_law_106 19 rfl rfl)
theorem dL_law_2734 : decode cL_law 2734 = .ok (.iaload, 1) := dk_46 (dk_at dksL_law_106 20 rfl rfl)
theorem dL_law_2735 : decode cL_law 2735 = .ok (.aload_n 3, 1) := dk_45 (dk_at dksL_law_106 21 rfl rfl)
theorem dL_law_2736 : decode cL_law 2736 = .ok (.invokestatic 350, 3) := dk_184 1 94 (dk_at dksL_law_107 0 rfl rfl)
theorem dL_law_2739 : decode cL_law 2739 = .ok (.istore 5, 2) := dk_54 5 (dk_at dksL_law_107 3 rfl rfl)
theorem dL_law_2741 : decode cL_law 2741 = .ok (.aload_n 2, 1) := dk_44 (dk_at dksL_law_107 5 rfl rfl)
theorem dL_law_2742 : decode cL_law 2742 = .ok (.aload_n 0, 1) := dk_42 (dk_at dksL_law_107 6 rfl rfl)
theorem dL_law_2743 : decode cL_law 2743 = .ok (.iload 4, 2) := dk_21 4 (dk_at dksL_law_107 7 rfl rfl)
theorem dL_law_2745 : decode cL_law 2745 = .ok (.iconst 1, 1) := dk_4 (dk_at dksL_law_107 9 rfl rfl)
theorem dL_law_2746 : decode cL_law 2746 = .ok (.iadd, 1) := dk_96 (dk_at dksL_law_107 10 rfl rfl)
theorem dL_law_2747 : decode cL_law 2747 = .ok (.iaload, 1) := dk_46 (dk_at dksL_law_107 11 rfl rfl)
theorem dL_law_2748 : decode cL_law 2748 = .ok (.aload_n 0, 1) := dk_42 (dk_at dksL_law_107 12 rfl rfl)
theorem dL_law_2749 : decode cL_law 2749 = .ok (.iload 4, 2) := dk_21 4 (dk_at dksL_law_107 13 rfl rfl)
theorem dL_law_2751 : decode cL_law 2751 = .ok (.iconst 2, 1) := dk_5 (dk_at dksL_law_107 15 rfl rfl)
theorem dL_law_2752 : decode cL_law 2752 = .ok (.iadd, 1) := dk_96 (dk_at dksL_law_107 16 rfl rfl)
theorem dL_law_2753 : decode cL_law 2753 = .ok (.iaload, 1) := dk_46 (dk_at dksL_law_107 17 rfl rfl)
theorem dL_law_2754 : decode cL_law 2754 = .ok (.invokevirtual 352, 3) := dk_182 1 96 (dk_at dksL_law_107 18 rfl rfl)
theorem dL_law_2757 : decode cL_law 2757 = .ok (.istore 6, 2) := dk_54 6 (dk_at dksL_law_107 21 rfl rfl)
theorem dL_law_2759 : decode cL_law 2759 = .ok (.aload_n 2, 1) := dk_44 (dk_at dksL_law_107 23 rfl rfl)
theorem dL_law_2760 : decode cL_law 2760 = .ok (.invokevirtual 145, 3) := dk_182 0 145 (dk_at dksL_law_108 0 rfl rfl)
theorem dL_law_2763 : decode cL_law 2763 = .ok (.iload 5, 2) := dk_21 5 (dk_at dksL_law_108 3 rfl rfl)
theorem dL_law_2765 : decode cL_law 2765 = .ok (.if_icmp .eq 5, 3) := dk_159 0 5 (dk_at dksL_law_108 5 rfl rfl)
theorem dL_law_2768 : decode cL_law 2768 = .ok (.iconst 0, 1) := dk_3 (dk_at dksL_law_108 8 rfl rfl)
theorem dL_law_2769 : decode cL_law 2769 = .ok (.ireturn, 1) := dk_172 (dk_at dksL_law_108 9 rfl rfl)
theorem dL_law_2770 : decode cL_law 2770 = .ok (.iload 5, 2) := dk_21 5 (dk_at dksL_law_108 10 rfl rfl)
theorem dL_law_2772 : decode cL_law 2772 = .ok (.ifCond .ne 15, 3) := dk_154 0 15 (dk_at dksL_law_108 12 rfl rfl)
theorem dL_law_2775 : decode cL_law 2775 = .ok (.aload_n 3, 1) := dk_45 (dk_at dksL_law_108 15 rfl rfl)
theorem dL_law_2776 : decode cL_law 2776 = .ok (.iconst 0, 1) := dk_3 (dk_at dksL_law_108 16 rfl rfl)
theorem dL_law_2777 : decode cL_law 2777 = .ok (.laload, 1) := dk_47 (dk_at dksL_law_108 17 rfl rfl)
theorem dL_law_2778 : decode cL_law 2778 = .ok (.iload 6, 2) := dk_21 6 (dk_at dksL_law_108 18 rfl rfl)
theorem dL_law_2780 : decode cL_law 2780 = .ok (.i2l, 1) := dk_133 (dk_at dksL_law_108 20 rfl rfl)
theorem dL_law_2781 : decode cL_law 2781 = .ok (.lcmp, 1) := dk_148 (dk_at dksL_law_108 21 rfl rfl)
theorem dL_law_2782 : decode cL_law 2782 = .ok (.ifCond .eq 5, 3) := dk_153 0 5 (dk_at dksL_law_109 0 rfl rfl)
theorem dL_law_2785 : decode cL_law 2785 = .ok (.iconst 0, 1) := dk_3 (dk_at dksL_law_109 3 rfl rfl)
theorem dL_law_2786 : decode cL_law 2786 = .ok (.ireturn, 1) := dk_172 (dk_at dksL_law_109 4 rfl rfl)
theorem dL_law_2787 : decode cL_law 2787 = .ok (.goto 252, 3) := dk_167 0 252 (dk_at dksL_law_109 5 rfl rfl)
theorem dL_law_2790 : decode cL_law 2790 = .ok (.aload_n 1, 1) := dk_43 (dk_at dksL_law_109 8 rfl rfl)
theorem dL_law_2791 : decode cL_law 2791 = .ok (.aload_n 0, 1) := dk_42 (dk_at dksL_law_109 9 rfl rfl)
theorem dL_law_2792 : decode cL_law 2792 = .ok (.iload 4, 2) := dk_21 4 (dk_at dksL_law_109 10 rfl rfl)
theorem dL_law_2794 : decode cL_law 2794 = .ok (.iconst 1, 1) := dk_4 (dk_at dksL_law_109 12 rfl rfl)
theorem dL_law_2795 : decode cL_law 2795 = .ok (.iadd, 1) := dk_96 (dk_at dksL_law_109 13 rfl rfl)
theorem dL_law_2796 : decode cL_law 2796 = .ok (.iaload, 1) := dk_46 (dk_at dksL_law_109 14 rfl rfl)
theorem dL_law_2797 : decode cL_law 2797 = .ok (.aload_n 3, 1) := dk_45 (dk_at dksL_law_109 15 rfl rfl)
theorem dL_law_2798 : decode cL_law 2798 = .ok (.invokestatic 353, 3) := dk_184 1 97 (dk_at dksL_law_109 16 rfl rfl)
theorem dL_law_2801 : decode cL_law 2801 = .ok (.istore 5, 2) := dk_54 5 (dk_at dksL_law_109 19 rfl rfl)
theorem dL_law_2803 : decode cL_law 2803 = .ok (.aload_n 2, 1) := dk_44 (dk_at dksL_law_109 21 rfl rfl)
theorem dL_law_2804 : decode cL_law 2804 = .ok (.aload_n 0, 1) := dk_42 (dk_at dksL_law_109 22 rfl rfl)
theorem dL_law_2805 : decode cL_law 2805 = .ok (.iload 4, 2) := dk_21 4 (dk_at dksL_law_110 0 rfl rfl)
theorem dL_law_2807 : decode cL_law 2807 = .ok (.iconst 1, 1) := dk_4 (dk_at dksL_law_110 2 rfl rfl)
theorem dL_law_2808 : decode cL_law 2808 = .ok (.iadd, 1) := dk_96 (dk_at dksL_law_110 3 rfl rfl)
theorem dL_law_2809 : decode cL_law 2809 = .ok (.iaload, 1) := dk_46 (dk_at dksL_law_110 4 rfl rfl)
theorem dL_law_2810 : decode cL_law 2810 = .ok (.invokevirtual 355, 3) := dk_182 1 99 (dk_at dksL_law_110 5 rfl rfl)
theorem dL_law_2813 : decode cL_law 2813 = .ok (.istore 6, 2) := dk_54 6 (dk_at dksL_law_110 8 rfl rfl)
theorem dL_law_2815 : decode cL_law 2815 = .ok (.aload_n 2, 1) := dk_44 (dk_at dksL_law_110 10 rfl rfl)
theorem dL_law_2816 : decode cL_law 2816 = .ok (.invokevirtual 145, 3) := dk_182 0 145 (dk_at dksL_law_110 11 rfl rfl)
theorem dL_law_2819 : decode cL_law 2819 = .ok (.iload 5, 2) := dk_21 5 (dk_at dksL_law_110 14 rfl rfl)
theorem dL_law_2821 : decode cL_law 2821 = .ok (.if_icmp .eq 5, 3) := dk_159 0 5 (dk_at dksL_law_110 16 rfl rfl)
theorem dL_law_2824 : decode cL_law 2824 = .ok (.iconst 0, 1) := dk_3 (dk_at dksL_law_110 19 rfl rfl)
theorem dL_law_2825 : decode cL_law 2825 = .ok (.ireturn, 1) := dk_172 (dk_at dksL_law_110 20 rfl rfl)
theorem dL_law_2826 : decode cL_law 2826 = .ok (.iload 5, 2) := dk_21 5 (dk_at dksL_law_110 21 rfl rfl)
theorem dL_law_2828 : decode cL_law 2828 = .ok (.ifCond .ne 15, 3) := dk_154 0 15 (dk_at dksL_law_111 0 rfl rfl)
theorem dL_law_2831 : decode cL_law 2831 = .ok (.aload_n 3, 1) := dk_45 (dk_at dksL_law_111 3 rfl rfl)
theorem dL_law_2832 : decode cL_law 2832 = .ok (.iconst 0, 1) := dk_3 (dk_at dksL_law_111 4 rfl rfl)
theorem dL_law_2833 : decode cL_law 2833 = .ok (.laload, 1) := dk_47 (dk_at dksL_law_111 5 rfl rfl)
theorem dL_law_2834 : decode cL_law 2834 = .ok (.iload 6, 2) := dk_21 6 (dk_at dksL_law_111 6 rfl rfl)
theorem dL_law_2836 : decode cL_law 2836 = .ok (.i2l, 1) := dk_133 (dk_at dksL_law_111 8 rfl rfl)
theorem dL_law_2837 : decode cL_law 2837 = .ok (.lcmp, 1) := dk_148 (dk_at dksL_law_111 9 rfl rfl)
theorem dL_law_2838 : decode cL_law 2838 = .ok (.ifCond .eq 5, 3) := dk_153 0 5 (dk_at dksL_law_111 10 rfl rfl)
theorem dL_law_2841 : decode cL_law 2841 = .ok (.iconst 0, 1) := dk_3 (dk_at dksL_law_111 13 rfl rfl)
theorem dL_law_2842 : decode cL_law 2842 = .ok (.ireturn, 1) := dk_172 (dk_at dksL_law_111 14 rfl rfl)
theorem dL_law_2843 : decode cL_law 2843 = .ok (.goto 196, 3) := dk_167 0 196 (dk_at dksL_law_111 15 rfl rfl)
theorem dL_law_2846 : decode cL_law 2846 = .ok (.aload_n 1, 1) := dk_43 (dk_at dksL_law_111 18 rfl rfl)
theorem dL_law_2847 : decode cL_law 2847 = .ok (.aload_n 0, 1) := dk_42 (dk_at dksL_law_111 19 rfl rfl)
theorem dL_law_2848 : decode cL_law 2848 = .ok (.iload 4, 2) := dk_21 4 (dk_at dksL_law_111 20 rfl rfl)
theorem dL_law_2850 : decode cL_law 2850 = .ok (.iconst 1, 1) := dk_4 (dk_at dksL_law_111 22 rfl rfl)
theorem dL_law_2851 : decode cL_law 2851 = .ok (.iadd, 1) := dk_96 (dk_at dksL_law_111 23 rfl rfl)
theorem dL_law_2852 : decode cL_law 2852 = .ok (.iaload, 1) := dk_46 (dk_at dksL_law_112 0 rfl rfl)
theorem dL_law_2853 : decode cL_law 2853 = .ok (.aload_n 0, 1) := dk_42 (dk_at dksL_law_112 1 rfl rfl)
theorem dL_law_2854 : decode cL_law 2854 = .ok (.iload 4, 2) := dk_21 4 (dk_at dksL_law_112 2 rfl rfl)
theorem dL_law_2856 : decode cL_law 2856 = .ok (.iconst 2, 1) := dk_5 (dk_at dksL_law_112 4 rfl rfl)
theorem dL_law_2857 : decode cL_law 2857 = .ok (.iadd, 1) := dk_96 (dk_at dksL_law_112 5 rfl rfl)
theorem dL_law_2858 : decode cL_law 2858 = .ok (.iaload, 1) := dk_46 (dk_at dksL_law_112 6 rfl rfl)
theorem dL_law_2859 : decode cL_law 2859 = .ok (.aload_n 3, 1) := dk_45 (dk_at dksL_law_112 7 rfl rfl)
theorem dL_law_2860 : decode cL_law 2860 = .ok (.invokestatic 356, 3) := dk_184 1 100 (dk_at dksL_law_112 8 rfl rfl)
theorem dL_law_2863 : decode cL_law 2863 = .ok (.istore 5, 2) := dk_54 5 (dk_at dksL_law_112 11 rfl rfl)
theorem dL_law_2865 : decode cL_law 2865 = .ok (.aload_n 2, 1) := dk_44 (dk_at dksL_law_112 13 rfl rfl)
theorem dL_law_2866 : decode cL_law 2866 = .ok (.aload_n 0, 1) := dk_42 (dk_at dksL_law_112 14 rfl rfl)
theorem dL_law_2867 : decode cL_law 2867 = .ok (.iload 4, 2) := dk_21 4 (dk_at dksL_law_112 15 rfl rfl)
theorem dL_law_2869 : decode cL_law 2869 = .ok (.iconst 1, 1) := dk_4 (dk_at dksL_law_112 17 rfl rfl)
theorem dL_law_2870 : decode cL_law 2870 = .ok (.iadd, 1) := dk_96 (dk_at dksL_law_112 18 rfl rfl)
theorem dL_law_2871 : decode cL_law 2871 = .ok (.iaload, 1) := dk_46 (dk_at dksL_law_112 19 rfl rfl)
theorem dL_law_2872 : decode cL_law 2872 = .ok (.aload_n 0, 1) := dk_42 (dk_at dksL_law_112 20 rfl rfl)
theorem dL_law_2873 : decode cL_law 2873 = .ok (.iload 4, 2) := dk_21 4 (dk_at dksL_law_112 21 rfl rfl)
theorem dL_law_2875 : decode cL_law 2875 = .ok (.iconst 2, 1) := dk_5 (dk_at dksL_law_112 23 rfl rfl)
theorem dL_law_2876 : decode cL_law 2876 = .ok (.iadd, 1) := dk_96 (dk_at dksL_law_113 0 rfl rfl)
theorem dL_law_2877 : decode cL_law 2877 = .ok (.iaload, 1) := dk_46 (dk_at dksL_law_113 1 rfl rfl)
theorem dL_law_2878 : decode cL_law 2878 = .ok (.invokevirtual 358, 3) := dk_182 1 102 (dk_at dksL_law_113 2 rfl rfl)
theorem dL_law_2881 : decode cL_law 2881 = .ok (.istore 6, 2) := dk_54 6 (dk_at dksL_law_113 5 rfl rfl)
theorem dL_law_2883 : decode cL_law 2883 = .ok (.aload_n 2, 1) := dk_44 (dk_at dksL_law_113 7 rfl rfl)
theorem dL_law_2884 : decode cL_law 2884 = .ok (.invokevirtual 145, 3) := dk_182 0 145 (dk_at dksL_law_113 8 rfl rfl)
theorem dL_law_2887 : decode cL_law 2887 = .ok (.iload 5, 2) := dk_21 5 (dk_at dksL_law_113 11 rfl rfl)
theorem dL_law_2889 : decode cL_law 2889 = .ok (.if_icmp .eq 5, 3) := dk_159 0 5 (dk_at dksL_law_113 13 rfl rfl)
theorem dL_law_2892 : decode cL_law 2892 = .ok (.iconst 0, 1) := dk_3 (dk_at dksL_law_113 16 rfl rfl)
theorem dL_law_2893 : decode cL_law 2893 = .ok (.ireturn, 1) := dk_172 (dk_at dksL_law_113 17 rfl rfl)
theorem dL_law_2894 : decode cL_law 2894 = .ok (.iload 5, 2) := dk_21 5 (dk_at dksL_law_113 18 rfl rfl)
theorem dL_law_2896 : decode cL_law 2896 = .ok (.ifCond .ne 15, 3) := dk_154 0 15 (dk_at dksL_law_113 20 rfl rfl)
theorem dL_law_2899 : decode cL_law 2899 = .ok (.aload_n 3, 1) := dk_45 (dk_at dksL_law_113 23 rfl rfl)
theorem dL_law_2900 : decode cL_law 2900 = .ok (.iconst 0, 1) := dk_3 (dk_at dksL_law_114 0 rfl rfl)
theorem dL_law_2901 : decode cL_law 2901 = .ok (.laload, 1) := dk_47 (dk_at dksL_law_114 1 rfl rfl)
theorem dL_law_2902 : decode cL_law 2902 = .ok (.iload 6, 2) := dk_21 6 (dk_at dksL_law_114 2 rfl rfl)
theorem dL_law_2904 : decode cL_law 2904 = .ok (.i2l, 1) := dk_133 (dk_at dksL_law_114 4 rfl rfl)
theorem dL_law_2905 : decode cL_law 2905 = .ok (.lcmp, 1) := dk_148 (dk_at dksL_law_114 5 rfl rfl)
theorem dL_law_2906 : decode cL_law 2906 = .ok (.ifCond .eq 5, 3) := dk_153 0 5 (dk_at dksL_law_114 6 rfl rfl)
theorem dL_law_2909 : decode cL_law 2909 = .ok (.iconst 0, 1) := dk_3 (dk_at dksL_law_114 9 rfl rfl)
theorem dL_law_2910 : decode cL_law 2910 = .ok (.ireturn, 1) := dk_172 (dk_at dksL_law_114 10 rfl rfl)
theorem dL_law_2911 : decode cL_law 2911 = .ok (.goto 128, 3) := dk_167 0 128 (dk_at dksL_law_114 11 rfl rfl)
theorem dL_law_2914 : decode cL_law 2914 = .ok (.aload_n 1, 1) := dk_43 (dk_at dksL_law_114 14 rfl rfl)
theorem dL_law_2915 : decode cL_law 2915 = .ok (.aload_n 0, 1) := dk_42 (dk_at dksL_law_114 15 rfl rfl)
theorem dL_law_2916 : decode cL_law 2916 = .ok (.iload 4, 2) := dk_21 4 (dk_at dksL_law_114 16 rfl rfl)
theorem dL_law_2918 : decode cL_law 2918 = .ok (.iconst 1, 1) := dk_4 (dk_at dksL_law_114 18 rfl rfl)
theorem dL_law_2919 : decode cL_law 2919 = .ok (.iadd, 1) := dk_96 (dk_at dksL_law_114 19 rfl rfl)
theorem dL_law_2920 : decode cL_law 2920 = .ok (.iaload, 1) := dk_46 (dk_at dksL_law_114 20 rfl rfl)
theorem dL_law_2921 : decode cL_law 2921 = .ok (.aload_n 3, 1) := dk_45 (dk_at dksL_law_114 21 rfl rfl)
theorem dL_law_2922 : decode cL_law 2922 = .ok (.invokestatic 359, 3) := dk_184 1 103 (dk_at dksL_law_115 0 rfl rfl)
theorem dL_law_2925 : decode cL_law 2925 = .ok (.istore 5, 2) := dk_54 5 (dk_at dksL_law_115 3 rfl rfl)
theorem dL_law_2927 : decode cL_law 2927 = .ok (.aload_n 2, 1) := dk_44 (dk_at dksL_law_115 5 rfl rfl)
theorem dL_law_2928 : decode cL_law 2928 = .ok (.aload_n 0, 1) := dk_42 (dk_at dksL_law_115 6 rfl rfl)
theorem dL_law_2929 : decode cL_law 2929 = .ok (.iload 4, 2) := dk_21 4 (dk_at dksL_law_115 7 rfl rfl)
theorem dL_law_2931 : decode cL_law 2931 = .ok (.iconst 1, 1) := dk_4 (dk_at dksL_law_115 9 rfl rfl)
theorem dL_law_2932 : decode cL_law 2932 = .ok (.iadd, 1) := dk_96 (dk_at dksL_law_115 10 rfl rfl)
theorem dL_law_2933 : decode cL_law 2933 = .ok (.iaload, 1) := dk_46 (dk_at dksL_law_115 11 rfl rfl)
theorem dL_law_2934 : decode cL_law 2934 = .ok (.invokevirtual 361, 3) := dk_182 1 105 (dk_at dksL_law_115 12 rfl rfl)
theorem dL_law_2937 : decode cL_law 2937 = .ok (.istore 6, 2) := dk_54 6 (dk_at dksL_law_115 15 rfl rfl)
theorem dL_law_2939 : decode cL_law 2939 = .ok (.aload_n 2, 1) := dk_44 (dk_at dksL_law_115 17 rfl rfl)
theorem dL_law_2940 : decode cL_law 2940 = .ok (.invokevirtual 145, 3) := dk_182 0 145 (dk_at dksL_law_115 18 rfl rfl)
theorem dL_law_2943 : decode cL_law 2943 = .ok (.iload 5, 2) := dk_21 5 (dk_at dksL_law_115 21 rfl rfl)
theorem dL_law_2945 : decode cL_law 2945 = .ok (.if_icmp .eq 5, 3) := dk_159 0 5 (dk_at dksL_law_116 0 rfl rfl)
theorem dL_law_2948 : decode cL_law 2948 = .ok (.iconst 0, 1) := dk_3 (dk_at dksL_law_116 3 rfl rfl)
theorem dL_law_2949 : decode cL_law 2949 = .ok (.ireturn, 1) := dk_172 (dk_at dksL_law_116 4 rfl rfl)
theorem dL_law_2950 : decode cL_law 2950 = .ok (.iload 5, 2) := dk_21 5 (dk_at dksL_law_116 5 rfl rfl)
theorem dL_law_2952 : decode cL_law 2952 = .ok (.ifCond .ne 15, 3) := dk_154 0 15 (dk_at dksL_law_116 7 rfl rfl)
theorem dL_law_2955 : decode cL_law 2955 = .ok (.aload_n 3, 1) := dk_45 (dk_at dksL_law_116 10 rfl rfl)
theorem dL_law_2956 : decode cL_law 2956 = .ok (.iconst 0, 1) := dk_3 (dk_at dksL_law_116 11 rfl rfl)
theorem dL_law_2957 : decode cL_law 2957 = .ok (.laload, 1) := dk_47 (dk_at dksL_law_116 12 rfl rfl)
theorem dL_law_2958 : decode cL_law 2958 = .ok (.iload 6, 2) := dk_21 6 (dk_at dksL_law_116 13 rfl rfl)
theorem dL_law_2960 : decode cL_law 2960 = .ok (.i2l, 1) := dk_133 (dk_at dksL_law_116 15 rfl rfl)
theorem dL_law_2961 : decode cL_law 2961 = .ok (.lcmp, 1) := dk_148 (dk_at dksL_law_116 16 rfl rfl)
theorem dL_law_2962 : decode cL_law 2962 = .ok (.ifCond .eq 5, 3) := dk_153 0 5 (dk_at dksL_law_116 17 rfl rfl)
theorem dL_law_2965 : decode cL_law 2965 = .ok (.iconst 0, 1) := dk_3 (dk_at dksL_law_116 20 rfl rfl)
theorem dL_law_2966 : decode cL_law 2966 = .ok (.ireturn, 1) := dk_172 (dk_at dksL_law_116 21 rfl rfl)
theorem dL_law_2967 : decode cL_law 2967 = .ok (.goto 72, 3) := dk_167 0 72 (dk_at dksL_law_117 0 rfl rfl)
theorem dL_law_2970 : decode cL_law 2970 = .ok (.aload_n 1, 1) := dk_43 (dk_at dksL_law_117 3 rfl rfl)
theorem dL_law_2971 : decode cL_law 2971 = .ok (.invokevirtual 362, 3) := dk_182 1 106 (dk_at dksL_law_117 4 rfl rfl)
theorem dL_law_2974 : decode cL_law 2974 = .ok (.aload_n 2, 1) := dk_44 (dk_at dksL_law_117 7 rfl rfl)
theorem dL_law_2975 : decode cL_law 2975 = .ok (.invokevirtual 365, 3) := dk_182 1 109 (dk_at dksL_law_117 8 rfl rfl)
theorem dL_law_2978 : decode cL_law 2978 = .ok (.if_icmp .eq 61, 3) := dk_159 0 61 (dk_at dksL_law_117 11 rfl rfl)
theorem dL_law_2981 : decode cL_law 2981 = .ok (.iconst 0, 1) := dk_3 (dk_at dksL_law_117 14 rfl rfl)
theorem dL_law_2982 : decode cL_law 2982 = .ok (.ireturn, 1) := dk_172 (dk_at dksL_law_117 15 rfl rfl)
theorem dL_law_2983 : decode cL_law 2983 = .ok (.aload_n 1, 1) := dk_43 (dk_at dksL_law_117 16 rfl rfl)
theorem dL_law_2984 : decode cL_law 2984 = .ok (.aload_n 0, 1) := dk_42 (dk_at dksL_law_117 17 rfl rfl)
theorem dL_law_2985 : decode cL_law 2985 = .ok (.iload 4, 2) := dk_21 4 (dk_at dksL_law_117 18 rfl rfl)
theorem dL_law_2987 : decode cL_law 2987 = .ok (.iconst 1, 1) := dk_4 (dk_at dksL_law_117 20 rfl rfl)
theorem dL_law_2988 : decode cL_law 2988 = .ok (.iadd, 1) := dk_96 (dk_at dksL_law_117 21 rfl rfl)
theorem dL_law_2989 : decode cL_law 2989 = .ok (.iaload, 1) := dk_46 (dk_at dksL_law_117 22 rfl rfl)
theorem dL_law_2990 : decode cL_law 2990 = .ok (.aload_n 3, 1) := dk_45 (dk_at dksL_law_117 23 rfl rfl)
theorem dL_law_2991 : decode cL_law 2991 = .ok (.invokestatic 366, 3) := dk_184 1 110 (dk_at dksL_law_118 0 rfl rfl)
theorem dL_law_2994 : decode cL_law 2994 = .ok (.istore 5, 2) := dk_54 5 (dk_at dksL_law_118 3 rfl rfl)
theorem dL_law_2996 : decode cL_law 2996 = .ok (.aload_n 2, 1) := dk_44 (dk_at dksL_law_118 5 rfl rfl)
theorem dL_law_2997 : decode cL_law 2997 = .ok (.aload_n 0, 1) := dk_42 (dk_at dksL_law_118 6 rfl rfl)
theorem dL_law_2998 : decode cL_law 2998 = .ok (.iload 4, 2) := dk_21 4 (dk_at dksL_law_118 7 rfl rfl)
theorem dL_law_3000 : decode cL_law 3000 = .ok (.iconst 1, 1) := dk_4 (dk_at dksL_law_118 9 rfl rfl)
theorem dL_law_3001 : decode cL_law 3001 = .ok (.iadd, 1) := dk_96 (dk_at dksL_law_118 10 rfl rfl)
theorem dL_law_3002 : decode cL_law 3002 = .ok (.iaload, 1) := dk_46 (dk_at dksL_law_118 11 rfl rfl)
theorem dL_law_3003 : decode cL_law 3003 = .ok (.invokevirtual 368, 3) := dk_182 1 112 (dk_at dksL_law_118 12 rfl rfl)
theorem dL_law_3006 : decode cL_law 3006 = .ok (.istore 6, 2) := dk_54 6 (dk_at dksL_law_118 15 rfl rfl)
theorem dL_law_3008 : decode cL_law 3008 = .ok (.aload_n 2, 1) := dk_44 (dk_at dksL_law_118 17 rfl rfl)
theorem dL_law_3009 : decode cL_law 3009 = .ok (.invokevirtual 145, 3) := dk_182 0 145 (dk_at dksL_law_118 18 rfl rfl)
theorem dL_law_3012 : decode cL_law 3012 = .ok (.iload 5, 2) := dk_21 5 (dk_at dksL_law_118 21 rfl rfl)
theorem dL_law_3014 : decode cL_law 3014 = .ok (.if_icmp .eq 5, 3) := dk_159 0 5 (dk_at dksL_law_119 0 rfl rfl)
theorem dL_law_3017 : decode cL_law 3017 = .ok (.iconst 0, 1) := dk_3 (dk_at dksL_law_119 3 rfl rfl)
theorem dL_law_3018 : decode cL_law 3018 = .ok (.ireturn, 1) := dk_172 (dk_at dksL_law_119 4 rfl rfl)
theorem dL_law_3019 : decode cL_law 3019 = .ok (.iload 5, 2) := dk_21 5 (dk_at dksL_law_119 5 rfl rfl)
theorem dL_law_3021 : decode cL_law 3021 = .ok (.ifCond .ne 15, 3) := dk_154 0 15 (dk_at dksL_law_119 7 rfl rfl)
theorem dL_law_3024 : decode cL_law 3024 = .ok (.aload_n 3, 1) := dk_45 (dk_at dksL_law_119 10 rfl rfl)
theorem dL_law_3025 : decode cL_law 3025 = .ok (.iconst 0, 1) := dk_3 (dk_at dksL_law_119 11 rfl rfl)
theorem dL_law_3026 : decode cL_law 3026 = .ok (.laload, 1) := dk_47 (dk_at dksL_law_119 12 rfl rfl)
theorem dL_law_3027 : decode cL_law 3027 = .ok (.iload 6, 2) := dk_21 6 (dk_at dksL_law_119 13 rfl rfl)
theorem dL_law_3029 : decode cL_law 3029 = .ok (.i2l, 1) := dk_133 (dk_at dksL_law_119 15 rfl rfl)
theorem dL_law_3030 : decode cL_law 3030 = .ok (.lcmp, 1) := dk_148 (dk_at dksL_law_119 16 rfl rfl)
theorem dL_law_3031 : decode cL_law 3031 = .ok (.ifCond .eq 5, 3) := dk_153 0 5 (dk_at dksL_law_119 17 rfl rfl)
theorem dL_law_3034 : decode cL_law 3034 = .ok (.iconst 0, 1) := dk_3 (dk_at dksL_law_119 20 rfl rfl)
theorem dL_law_3035 : decode cL_law 3035 = .ok (.ireturn, 1) := dk_172 (dk_at dksL_law_119 21 rfl rfl)
theorem dL_law_3036 : decode cL_law 3036 = .ok (.goto 3, 3) := dk_167 0 3 (dk_at dksL_law_120 0 rfl rfl)
theorem dL_law_3039 : decode cL_law 3039 = .ok (.iinc 4 6, 3) := dk_132 4 6 (dk_at dksL_law_120 3 rfl rfl)
theorem dL_law_3042 : decode cL_law 3042 = .ok (.goto (-3019), 3) := dk_167 244 53 (dk_at dksL_law_120 6 rfl rfl)
theorem dL_law_3045 : decode cL_law 3045 = .ok (.iconst 1, 1) := dk_4 (dk_at dksL_law_120 9 rfl rfl)
theorem dL_law_3046 : decode cL_law 3046 = .ok (.ireturn, 1) := dk_172 (dk_at dksL_law_120 10 rfl rfl)
