-- ===== PART A: goes FIRST, ahead of the names: the tables' words, and 'selects' of the private methods out of them =====
/-- a private method of a class that the tables say can be made, by its rows of tables_1 -/
def lw_okq (q : MethodName × Nat) : Prop := (q.1.cls ≠ "java/lang/invoke/MethodHandle" ∧ q.1.cls ≠ "java/lang/invoke/VarHandle") ∧ Cond.instantiable q.1.cls q.2 ∈ tables_1 ∧ Cond.privateMethod q.1 ∈ tables_1 ∧ Cond.instanceMethod q.1 ∈ tables_1
set_option maxRecDepth 100000
theorem lw_t1 {w : Cond} (h : w ∈ tables_1_1) : w ∈ tables_1 := List.mem_append_left _ h
theorem lw_t2 {w : Cond} (h : w ∈ tables_1_2) : w ∈ tables_1 := List.mem_append_right _ (List.mem_append_left _ h)
theorem lw_t3 {w : Cond} (h : w ∈ tables_1_3) : w ∈ tables_1 := List.mem_append_right _ (List.mem_append_right _ (List.mem_append_left _ h))
theorem lw_t4 {w : Cond} (h : w ∈ tables_1_4) : w ∈ tables_1 := List.mem_append_right _ (List.mem_append_right _ (List.mem_append_right _ (List.mem_append_left _ h)))
theorem lw_t5 {w : Cond} (h : w ∈ tables_1_5) : w ∈ tables_1 := List.mem_append_right _ (List.mem_append_right _ (List.mem_append_right _ (List.mem_append_right _ (List.mem_append_left _ h))))
theorem lw_t6 {w : Cond} (h : w ∈ tables_1_6) : w ∈ tables_1 := List.mem_append_right _ (List.mem_append_right _ (List.mem_append_right _ (List.mem_append_right _ (List.mem_append_right _ (List.mem_append_left _ h)))))
theorem lw_t7 {w : Cond} (h : w ∈ tables_1_7) : w ∈ tables_1 := List.mem_append_right _ (List.mem_append_right _ (List.mem_append_right _ (List.mem_append_right _ (List.mem_append_right _ (List.mem_append_right _ (List.mem_append_left _ h))))))
theorem lw_t8 {w : Cond} (h : w ∈ tables_1_8) : w ∈ tables_1 := List.mem_append_right _ (List.mem_append_right _ (List.mem_append_right _ (List.mem_append_right _ (List.mem_append_right _ (List.mem_append_right _ (List.mem_append_right _ (List.mem_append_left _ h)))))))
theorem lw_t9 {w : Cond} (h : w ∈ tables_1_9) : w ∈ tables_1 := List.mem_append_right _ (List.mem_append_right _ (List.mem_append_right _ (List.mem_append_right _ (List.mem_append_right _ (List.mem_append_right _ (List.mem_append_right _ (List.mem_append_right _ (List.mem_append_left _ h))))))))
theorem lw_t10 {w : Cond} (h : w ∈ tables_1_10) : w ∈ tables_1 := List.mem_append_right _ (List.mem_append_right _ (List.mem_append_right _ (List.mem_append_right _ (List.mem_append_right _ (List.mem_append_right _ (List.mem_append_right _ (List.mem_append_right _ (List.mem_append_right _ (List.mem_append_left _ h)))))))))
theorem lw_t11 {w : Cond} (h : w ∈ tables_1_11) : w ∈ tables_1 := List.mem_append_right _ (List.mem_append_right _ (List.mem_append_right _ (List.mem_append_right _ (List.mem_append_right _ (List.mem_append_right _ (List.mem_append_right _ (List.mem_append_right _ (List.mem_append_right _ (List.mem_append_right _ (List.mem_append_left _ h))))))))))
theorem lw_t12 {w : Cond} (h : w ∈ tables_1_12) : w ∈ tables_1 := List.mem_append_right _ (List.mem_append_right _ (List.mem_append_right _ (List.mem_append_right _ (List.mem_append_right _ (List.mem_append_right _ (List.mem_append_right _ (List.mem_append_right _ (List.mem_append_right _ (List.mem_append_right _ (List.mem_append_right _ h))))))))))
theorem lw_p0 : lw_okq (⟨"InnRoad$Road", "byMiles", "()Ljava/util/List;"⟩, 5) := ⟨⟨by decide +kernel, by decide +kernel⟩, lw_t1 (List.mem_of_getElem? (i := 55) rfl), lw_t1 (List.mem_of_getElem? (i := 192) rfl), lw_t1 (List.mem_of_getElem? (i := 193) rfl)⟩
theorem lw_p1 : lw_okq (⟨"java/util/ArrayList", "rangeCheckForAdd", "(I)V"⟩, 3) := ⟨⟨by decide +kernel, by decide +kernel⟩, lw_t1 (List.mem_of_getElem? (i := 196) rfl), lw_t2 (List.mem_of_getElem? (i := 49) rfl), lw_t2 (List.mem_of_getElem? (i := 50) rfl)⟩
theorem lw_p2 : lw_okq (⟨"java/lang/Throwable", "fillInStackTrace", "(I)Ljava/lang/Throwable;"⟩, 6) := ⟨⟨by decide +kernel, by decide +kernel⟩, lw_t2 (List.mem_of_getElem? (i := 93) rfl), lw_t2 (List.mem_of_getElem? (i := 91) rfl), lw_t2 (List.mem_of_getElem? (i := 92) rfl)⟩
theorem lw_p3 : lw_okq (⟨"java/util/ArrayList", "outOfBoundsMsg", "(I)Ljava/lang/String;"⟩, 3) := ⟨⟨by decide +kernel, by decide +kernel⟩, lw_t1 (List.mem_of_getElem? (i := 196) rfl), lw_t2 (List.mem_of_getElem? (i := 96) rfl), lw_t2 (List.mem_of_getElem? (i := 97) rfl)⟩
theorem lw_p4 : lw_okq (⟨"java/util/ArrayList", "grow", "()[Ljava/lang/Object;"⟩, 3) := ⟨⟨by decide +kernel, by decide +kernel⟩, lw_t1 (List.mem_of_getElem? (i := 196) rfl), lw_t3 (List.mem_of_getElem? (i := 146) rfl), lw_t3 (List.mem_of_getElem? (i := 147) rfl)⟩
theorem lw_p5 : lw_okq (⟨"java/util/ArrayList", "grow", "(I)[Ljava/lang/Object;"⟩, 3) := ⟨⟨by decide +kernel, by decide +kernel⟩, lw_t1 (List.mem_of_getElem? (i := 196) rfl), lw_t3 (List.mem_of_getElem? (i := 150) rfl), lw_t3 (List.mem_of_getElem? (i := 151) rfl)⟩
theorem lw_p6 : lw_okq (⟨"InnRoad$Road", "wrongAt", "(ILInnRoad$Links;)I"⟩, 5) := ⟨⟨by decide +kernel, by decide +kernel⟩, lw_t1 (List.mem_of_getElem? (i := 55) rfl), lw_t3 (List.mem_of_getElem? (i := 205) rfl), lw_t3 (List.mem_of_getElem? (i := 206) rfl)⟩
theorem lw_p7 : lw_okq (⟨"InnRoad$Parser", "advance", "()V"⟩, 8) := ⟨⟨by decide +kernel, by decide +kernel⟩, lw_t3 (List.mem_of_getElem? (i := 238) rfl), lw_t4 (List.mem_of_getElem? (i := 67) rfl), lw_t4 (List.mem_of_getElem? (i := 68) rfl)⟩
theorem lw_p8 : lw_okq (⟨"InnRoad$Parser", "isByteBetween", "(CC)Z"⟩, 8) := ⟨⟨by decide +kernel, by decide +kernel⟩, lw_t3 (List.mem_of_getElem? (i := 238) rfl), lw_t4 (List.mem_of_getElem? (i := 71) rfl), lw_t4 (List.mem_of_getElem? (i := 72) rfl)⟩
theorem lw_p9 : lw_okq (⟨"InnRoad$Parser", "readNumber", "()V"⟩, 8) := ⟨⟨by decide +kernel, by decide +kernel⟩, lw_t3 (List.mem_of_getElem? (i := 238) rfl), lw_t4 (List.mem_of_getElem? (i := 105) rfl), lw_t4 (List.mem_of_getElem? (i := 106) rfl)⟩
theorem lw_p10 : lw_okq (⟨"InnRoad$Parser", "accepts", "(Ljava/lang/String;)Z"⟩, 8) := ⟨⟨by decide +kernel, by decide +kernel⟩, lw_t3 (List.mem_of_getElem? (i := 238) rfl), lw_t4 (List.mem_of_getElem? (i := 116) rfl), lw_t4 (List.mem_of_getElem? (i := 117) rfl)⟩
theorem lw_p11 : lw_okq (⟨"InnRoad$Parser", "require", "(Z)V"⟩, 8) := ⟨⟨by decide +kernel, by decide +kernel⟩, lw_t3 (List.mem_of_getElem? (i := 238) rfl), lw_t4 (List.mem_of_getElem? (i := 128) rfl), lw_t4 (List.mem_of_getElem? (i := 129) rfl)⟩
theorem lw_p12 : lw_okq (⟨"InnRoad$Parser", "expectNumber", "(II)I"⟩, 8) := ⟨⟨by decide +kernel, by decide +kernel⟩, lw_t3 (List.mem_of_getElem? (i := 238) rfl), lw_t4 (List.mem_of_getElem? (i := 152) rfl), lw_t4 (List.mem_of_getElem? (i := 153) rfl)⟩
theorem lw_p13 : lw_okq (⟨"InnRoad$Parser", "parseSeparator", "()Z"⟩, 8) := ⟨⟨by decide +kernel, by decide +kernel⟩, lw_t3 (List.mem_of_getElem? (i := 238) rfl), lw_t4 (List.mem_of_getElem? (i := 159) rfl), lw_t4 (List.mem_of_getElem? (i := 160) rfl)⟩
theorem lw_p14 : lw_okq (⟨"InnRoad$Parser", "parseInn", "(LInnRoad$Road;)V"⟩, 8) := ⟨⟨by decide +kernel, by decide +kernel⟩, lw_t3 (List.mem_of_getElem? (i := 238) rfl), lw_t4 (List.mem_of_getElem? (i := 164) rfl), lw_t4 (List.mem_of_getElem? (i := 165) rfl)⟩
theorem lw_p15 : lw_okq (⟨"InnRoad$Parser", "expectIndex", "(Ljava/lang/String;)I"⟩, 8) := ⟨⟨by decide +kernel, by decide +kernel⟩, lw_t3 (List.mem_of_getElem? (i := 238) rfl), lw_t4 (List.mem_of_getElem? (i := 168) rfl), lw_t4 (List.mem_of_getElem? (i := 169) rfl)⟩
def lw_privs_1 : List (MethodName × Nat) := [(⟨"InnRoad$Road", "byMiles", "()Ljava/util/List;"⟩, 5), (⟨"java/util/ArrayList", "rangeCheckForAdd", "(I)V"⟩, 3), (⟨"java/lang/Throwable", "fillInStackTrace", "(I)Ljava/lang/Throwable;"⟩, 6), (⟨"java/util/ArrayList", "outOfBoundsMsg", "(I)Ljava/lang/String;"⟩, 3), (⟨"java/util/ArrayList", "grow", "()[Ljava/lang/Object;"⟩, 3), (⟨"java/util/ArrayList", "grow", "(I)[Ljava/lang/Object;"⟩, 3), (⟨"InnRoad$Road", "wrongAt", "(ILInnRoad$Links;)I"⟩, 5), (⟨"InnRoad$Parser", "advance", "()V"⟩, 8), (⟨"InnRoad$Parser", "isByteBetween", "(CC)Z"⟩, 8), (⟨"InnRoad$Parser", "readNumber", "()V"⟩, 8), (⟨"InnRoad$Parser", "accepts", "(Ljava/lang/String;)Z"⟩, 8), (⟨"InnRoad$Parser", "require", "(Z)V"⟩, 8), (⟨"InnRoad$Parser", "expectNumber", "(II)I"⟩, 8), (⟨"InnRoad$Parser", "parseSeparator", "()Z"⟩, 8), (⟨"InnRoad$Parser", "parseInn", "(LInnRoad$Road;)V"⟩, 8), (⟨"InnRoad$Parser", "expectIndex", "(Ljava/lang/String;)I"⟩, 8)]
theorem lw_r1 : ∀ q ∈ lw_privs_1, lw_okq q := List.forall_mem_cons.mpr ⟨lw_p0, List.forall_mem_cons.mpr ⟨lw_p1, List.forall_mem_cons.mpr ⟨lw_p2, List.forall_mem_cons.mpr ⟨lw_p3, List.forall_mem_cons.mpr ⟨lw_p4, List.forall_mem_cons.mpr ⟨lw_p5, List.forall_mem_cons.mpr ⟨lw_p6, List.forall_mem_cons.mpr ⟨lw_p7, List.forall_mem_cons.mpr ⟨lw_p8, List.forall_mem_cons.mpr ⟨lw_p9, List.forall_mem_cons.mpr ⟨lw_p10, List.forall_mem_cons.mpr ⟨lw_p11, List.forall_mem_cons.mpr ⟨lw_p12, List.forall_mem_cons.mpr ⟨lw_p13, List.forall_mem_cons.mpr ⟨lw_p14, List.forall_mem_cons.mpr ⟨lw_p15, fun _ h => absurd h List.not_mem_nil⟩⟩⟩⟩⟩⟩⟩⟩⟩⟩⟩⟩⟩⟩⟩⟩
theorem lw_p16 : lw_okq (⟨"InnRoad$Parser", "parseValues", "(LInnRoad$Road;)V"⟩, 8) := ⟨⟨by decide +kernel, by decide +kernel⟩, lw_t3 (List.mem_of_getElem? (i := 238) rfl), lw_t6 (List.mem_of_getElem? (i := 233) rfl), lw_t6 (List.mem_of_getElem? (i := 234) rfl)⟩
theorem lw_p17 : lw_okq (⟨"InnRoad$Parser", "expectPointer", "()I"⟩, 8) := ⟨⟨by decide +kernel, by decide +kernel⟩, lw_t3 (List.mem_of_getElem? (i := 238) rfl), lw_t6 (List.mem_of_getElem? (i := 238) rfl), lw_t6 (List.mem_of_getElem? (i := 239) rfl)⟩
theorem lw_p18 : lw_okq (⟨"InnRoad$Parser", "parsePointers", "(LInnRoad$Road;Ljava/lang/String;[I)Z"⟩, 8) := ⟨⟨by decide +kernel, by decide +kernel⟩, lw_t3 (List.mem_of_getElem? (i := 238) rfl), lw_t7 (List.mem_of_getElem? (i := 5) rfl), lw_t7 (List.mem_of_getElem? (i := 6) rfl)⟩
theorem lw_p19 : lw_okq (⟨"InnRoad", "change", "()LInnRoad$Road;"⟩, 6) := ⟨⟨by decide +kernel, by decide +kernel⟩, lw_t1 (List.mem_of_getElem? (i := 47) rfl), lw_t7 (List.mem_of_getElem? (i := 19) rfl), lw_t7 (List.mem_of_getElem? (i := 20) rfl)⟩
theorem lw_p20 : lw_okq (⟨"InnRoad", "replaceBy", "(LInnRoad$Road;)V"⟩, 6) := ⟨⟨by decide +kernel, by decide +kernel⟩, lw_t1 (List.mem_of_getElem? (i := 47) rfl), lw_t7 (List.mem_of_getElem? (i := 30) rfl), lw_t7 (List.mem_of_getElem? (i := 31) rfl)⟩
theorem lw_p21 : lw_okq (⟨"java/util/ArrayDeque", "grow", "(I)V"⟩, 3) := ⟨⟨by decide +kernel, by decide +kernel⟩, lw_t1 (List.mem_of_getElem? (i := 134) rfl), lw_t7 (List.mem_of_getElem? (i := 64) rfl), lw_t7 (List.mem_of_getElem? (i := 65) rfl)⟩
theorem lw_p22 : lw_okq (⟨"java/util/ArrayDeque", "newCapacity", "(II)I"⟩, 3) := ⟨⟨by decide +kernel, by decide +kernel⟩, lw_t1 (List.mem_of_getElem? (i := 134) rfl), lw_t7 (List.mem_of_getElem? (i := 69) rfl), lw_t7 (List.mem_of_getElem? (i := 70) rfl)⟩
theorem lw_p23 : lw_okq (⟨"java/util/ArrayList", "add", "(Ljava/lang/Object;[Ljava/lang/Object;I)V"⟩, 3) := ⟨⟨by decide +kernel, by decide +kernel⟩, lw_t1 (List.mem_of_getElem? (i := 196) rfl), lw_t7 (List.mem_of_getElem? (i := 225) rfl), lw_t7 (List.mem_of_getElem? (i := 226) rfl)⟩
theorem lw_p24 : lw_okq (⟨"InnRoad$Road", "danglingAt", "(I)I"⟩, 5) := ⟨⟨by decide +kernel, by decide +kernel⟩, lw_t1 (List.mem_of_getElem? (i := 55) rfl), lw_t8 (List.mem_of_getElem? (i := 15) rfl), lw_t8 (List.mem_of_getElem? (i := 16) rfl)⟩
theorem lw_p25 : lw_okq (⟨"InnRoad", "writeValues", "(Ljava/lang/StringBuilder;)V"⟩, 6) := ⟨⟨by decide +kernel, by decide +kernel⟩, lw_t1 (List.mem_of_getElem? (i := 47) rfl), lw_t8 (List.mem_of_getElem? (i := 68) rfl), lw_t8 (List.mem_of_getElem? (i := 69) rfl)⟩
theorem lw_p26 : lw_okq (⟨"InnRoad", "inn", "(I)LInnRoad$Inn;"⟩, 6) := ⟨⟨by decide +kernel, by decide +kernel⟩, lw_t1 (List.mem_of_getElem? (i := 47) rfl), lw_t8 (List.mem_of_getElem? (i := 169) rfl), lw_t8 (List.mem_of_getElem? (i := 170) rfl)⟩
theorem lw_p27 : lw_okq (⟨"InnRoad", "setOpen", "(IZ)Z"⟩, 6) := ⟨⟨by decide +kernel, by decide +kernel⟩, lw_t1 (List.mem_of_getElem? (i := 47) rfl), lw_t8 (List.mem_of_getElem? (i := 188) rfl), lw_t8 (List.mem_of_getElem? (i := 189) rfl)⟩
theorem lw_p28 : lw_okq (⟨"InnRoad", "ride", "(II)LInnRoad$Ride;"⟩, 6) := ⟨⟨by decide +kernel, by decide +kernel⟩, lw_t1 (List.mem_of_getElem? (i := 47) rfl), lw_t9 (List.mem_of_getElem? (i := 182) rfl), lw_t9 (List.mem_of_getElem? (i := 183) rfl)⟩
theorem lw_p29 : lw_okq (⟨"InnRoad", "checkInns", "(II)V"⟩, 6) := ⟨⟨by decide +kernel, by decide +kernel⟩, lw_t1 (List.mem_of_getElem? (i := 47) rfl), lw_t9 (List.mem_of_getElem? (i := 186) rfl), lw_t9 (List.mem_of_getElem? (i := 187) rfl)⟩
theorem lw_p30 : lw_okq (⟨"InnRoad", "isReachableIf", "(IIIZ)Z"⟩, 6) := ⟨⟨by decide +kernel, by decide +kernel⟩, lw_t1 (List.mem_of_getElem? (i := 47) rfl), lw_t9 (List.mem_of_getElem? (i := 218) rfl), lw_t9 (List.mem_of_getElem? (i := 219) rfl)⟩
theorem lw_p31 : lw_okq (⟨"InnRoadModel", "fails", "(I)I"⟩, 25) := ⟨⟨by decide +kernel, by decide +kernel⟩, lw_t10 (List.mem_of_getElem? (i := 90) rfl), lw_t10 (List.mem_of_getElem? (i := 193) rfl), lw_t10 (List.mem_of_getElem? (i := 194) rfl)⟩
def lw_privs_2 : List (MethodName × Nat) := [(⟨"InnRoad$Parser", "parseValues", "(LInnRoad$Road;)V"⟩, 8), (⟨"InnRoad$Parser", "expectPointer", "()I"⟩, 8), (⟨"InnRoad$Parser", "parsePointers", "(LInnRoad$Road;Ljava/lang/String;[I)Z"⟩, 8), (⟨"InnRoad", "change", "()LInnRoad$Road;"⟩, 6), (⟨"InnRoad", "replaceBy", "(LInnRoad$Road;)V"⟩, 6), (⟨"java/util/ArrayDeque", "grow", "(I)V"⟩, 3), (⟨"java/util/ArrayDeque", "newCapacity", "(II)I"⟩, 3), (⟨"java/util/ArrayList", "add", "(Ljava/lang/Object;[Ljava/lang/Object;I)V"⟩, 3), (⟨"InnRoad$Road", "danglingAt", "(I)I"⟩, 5), (⟨"InnRoad", "writeValues", "(Ljava/lang/StringBuilder;)V"⟩, 6), (⟨"InnRoad", "inn", "(I)LInnRoad$Inn;"⟩, 6), (⟨"InnRoad", "setOpen", "(IZ)Z"⟩, 6), (⟨"InnRoad", "ride", "(II)LInnRoad$Ride;"⟩, 6), (⟨"InnRoad", "checkInns", "(II)V"⟩, 6), (⟨"InnRoad", "isReachableIf", "(IIIZ)Z"⟩, 6), (⟨"InnRoadModel", "fails", "(I)I"⟩, 25)]
theorem lw_r2 : ∀ q ∈ lw_privs_2, lw_okq q := List.forall_mem_cons.mpr ⟨lw_p16, List.forall_mem_cons.mpr ⟨lw_p17, List.forall_mem_cons.mpr ⟨lw_p18, List.forall_mem_cons.mpr ⟨lw_p19, List.forall_mem_cons.mpr ⟨lw_p20, List.forall_mem_cons.mpr ⟨lw_p21, List.forall_mem_cons.mpr ⟨lw_p22, List.forall_mem_cons.mpr ⟨lw_p23, List.forall_mem_cons.mpr ⟨lw_p24, List.forall_mem_cons.mpr ⟨lw_p25, List.forall_mem_cons.mpr ⟨lw_p26, List.forall_mem_cons.mpr ⟨lw_p27, List.forall_mem_cons.mpr ⟨lw_p28, List.forall_mem_cons.mpr ⟨lw_p29, List.forall_mem_cons.mpr ⟨lw_p30, List.forall_mem_cons.mpr ⟨lw_p31, fun _ h => absurd h List.not_mem_nil⟩⟩⟩⟩⟩⟩⟩⟩⟩⟩⟩⟩⟩⟩⟩⟩
theorem lw_p32 : lw_okq (⟨"InnRoadModel", "brings", "(I)V"⟩, 25) := ⟨⟨by decide +kernel, by decide +kernel⟩, lw_t10 (List.mem_of_getElem? (i := 90) rfl), lw_t10 (List.mem_of_getElem? (i := 197) rfl), lw_t10 (List.mem_of_getElem? (i := 198) rfl)⟩
theorem lw_p33 : lw_okq (⟨"InnRoadModel", "reads", "()Z"⟩, 25) := ⟨⟨by decide +kernel, by decide +kernel⟩, lw_t10 (List.mem_of_getElem? (i := 90) rfl), lw_t10 (List.mem_of_getElem? (i := 212) rfl), lw_t10 (List.mem_of_getElem? (i := 213) rfl)⟩
theorem lw_p34 : lw_okq (⟨"InnRoadModel", "advances", "()V"⟩, 25) := ⟨⟨by decide +kernel, by decide +kernel⟩, lw_t10 (List.mem_of_getElem? (i := 90) rfl), lw_t10 (List.mem_of_getElem? (i := 216) rfl), lw_t10 (List.mem_of_getElem? (i := 217) rfl)⟩
theorem lw_p35 : lw_okq (⟨"InnRoadModel", "isLower", "(I)Z"⟩, 25) := ⟨⟨by decide +kernel, by decide +kernel⟩, lw_t10 (List.mem_of_getElem? (i := 90) rfl), lw_t10 (List.mem_of_getElem? (i := 220) rfl), lw_t10 (List.mem_of_getElem? (i := 221) rfl)⟩
theorem lw_p36 : lw_okq (⟨"InnRoadModel", "isDigit", "(I)Z"⟩, 25) := ⟨⟨by decide +kernel, by decide +kernel⟩, lw_t10 (List.mem_of_getElem? (i := 90) rfl), lw_t10 (List.mem_of_getElem? (i := 226) rfl), lw_t10 (List.mem_of_getElem? (i := 227) rfl)⟩
theorem lw_p37 : lw_okq (⟨"InnRoadModel", "readsWord", "(Ljava/lang/String;)Z"⟩, 25) := ⟨⟨by decide +kernel, by decide +kernel⟩, lw_t10 (List.mem_of_getElem? (i := 90) rfl), lw_t10 (List.mem_of_getElem? (i := 233) rfl), lw_t10 (List.mem_of_getElem? (i := 234) rfl)⟩
theorem lw_p38 : lw_okq (⟨"InnRoadModel", "isWord", "(Ljava/lang/String;)Z"⟩, 25) := ⟨⟨by decide +kernel, by decide +kernel⟩, lw_t10 (List.mem_of_getElem? (i := 90) rfl), lw_t10 (List.mem_of_getElem? (i := 237) rfl), lw_t10 (List.mem_of_getElem? (i := 238) rfl)⟩
theorem lw_p39 : lw_okq (⟨"InnRoadModel", "readsNumber", "(II)Z"⟩, 25) := ⟨⟨by decide +kernel, by decide +kernel⟩, lw_t10 (List.mem_of_getElem? (i := 90) rfl), lw_t11 (List.mem_of_getElem? (i := 3) rfl), lw_t11 (List.mem_of_getElem? (i := 4) rfl)⟩
theorem lw_p40 : lw_okq (⟨"InnRoadModel", "isNumber", "(II)Z"⟩, 25) := ⟨⟨by decide +kernel, by decide +kernel⟩, lw_t10 (List.mem_of_getElem? (i := 90) rfl), lw_t11 (List.mem_of_getElem? (i := 7) rfl), lw_t11 (List.mem_of_getElem? (i := 8) rfl)⟩
theorem lw_p41 : lw_okq (⟨"InnRoadModel", "isSign", "(I)Z"⟩, 25) := ⟨⟨by decide +kernel, by decide +kernel⟩, lw_t10 (List.mem_of_getElem? (i := 90) rfl), lw_t11 (List.mem_of_getElem? (i := 11) rfl), lw_t11 (List.mem_of_getElem? (i := 12) rfl)⟩
theorem lw_p42 : lw_okq (⟨"InnRoadModel", "partAt", "()I"⟩, 25) := ⟨⟨by decide +kernel, by decide +kernel⟩, lw_t10 (List.mem_of_getElem? (i := 90) rfl), lw_t11 (List.mem_of_getElem? (i := 15) rfl), lw_t11 (List.mem_of_getElem? (i := 16) rfl)⟩
theorem lw_p43 : lw_okq (⟨"InnRoadModel", "readsPart", "(II)Z"⟩, 25) := ⟨⟨by decide +kernel, by decide +kernel⟩, lw_t10 (List.mem_of_getElem? (i := 90) rfl), lw_t11 (List.mem_of_getElem? (i := 25) rfl), lw_t11 (List.mem_of_getElem? (i := 26) rfl)⟩
theorem lw_p44 : lw_okq (⟨"InnRoadModel", "readsInn", "(I)Z"⟩, 25) := ⟨⟨by decide +kernel, by decide +kernel⟩, lw_t10 (List.mem_of_getElem? (i := 90) rfl), lw_t11 (List.mem_of_getElem? (i := 29) rfl), lw_t11 (List.mem_of_getElem? (i := 30) rfl)⟩
theorem lw_p45 : lw_okq (⟨"InnRoadModel", "readsPointer", "(I)Z"⟩, 25) := ⟨⟨by decide +kernel, by decide +kernel⟩, lw_t10 (List.mem_of_getElem? (i := 90) rfl), lw_t11 (List.mem_of_getElem? (i := 38) rfl), lw_t11 (List.mem_of_getElem? (i := 39) rfl)⟩
theorem lw_p46 : lw_okq (⟨"InnRoadModel", "readsOwnPointer", "(II)Z"⟩, 25) := ⟨⟨by decide +kernel, by decide +kernel⟩, lw_t10 (List.mem_of_getElem? (i := 90) rfl), lw_t11 (List.mem_of_getElem? (i := 42) rfl), lw_t11 (List.mem_of_getElem? (i := 43) rfl)⟩
theorem lw_p47 : lw_okq (⟨"InnRoadModel", "remembers", "()V"⟩, 25) := ⟨⟨by decide +kernel, by decide +kernel⟩, lw_t10 (List.mem_of_getElem? (i := 90) rfl), lw_t11 (List.mem_of_getElem? (i := 50) rfl), lw_t11 (List.mem_of_getElem? (i := 51) rfl)⟩
def lw_privs_3 : List (MethodName × Nat) := [(⟨"InnRoadModel", "brings", "(I)V"⟩, 25), (⟨"InnRoadModel", "reads", "()Z"⟩, 25), (⟨"InnRoadModel", "advances", "()V"⟩, 25), (⟨"InnRoadModel", "isLower", "(I)Z"⟩, 25), (⟨"InnRoadModel", "isDigit", "(I)Z"⟩, 25), (⟨"InnRoadModel", "readsWord", "(Ljava/lang/String;)Z"⟩, 25), (⟨"InnRoadModel", "isWord", "(Ljava/lang/String;)Z"⟩, 25), (⟨"InnRoadModel", "readsNumber", "(II)Z"⟩, 25), (⟨"InnRoadModel", "isNumber", "(II)Z"⟩, 25), (⟨"InnRoadModel", "isSign", "(I)Z"⟩, 25), (⟨"InnRoadModel", "partAt", "()I"⟩, 25), (⟨"InnRoadModel", "readsPart", "(II)Z"⟩, 25), (⟨"InnRoadModel", "readsInn", "(I)Z"⟩, 25), (⟨"InnRoadModel", "readsPointer", "(I)Z"⟩, 25), (⟨"InnRoadModel", "readsOwnPointer", "(II)Z"⟩, 25), (⟨"InnRoadModel", "remembers", "()V"⟩, 25)]
theorem lw_r3 : ∀ q ∈ lw_privs_3, lw_okq q := List.forall_mem_cons.mpr ⟨lw_p32, List.forall_mem_cons.mpr ⟨lw_p33, List.forall_mem_cons.mpr ⟨lw_p34, List.forall_mem_cons.mpr ⟨lw_p35, List.forall_mem_cons.mpr ⟨lw_p36, List.forall_mem_cons.mpr ⟨lw_p37, List.forall_mem_cons.mpr ⟨lw_p38, List.forall_mem_cons.mpr ⟨lw_p39, List.forall_mem_cons.mpr ⟨lw_p40, List.forall_mem_cons.mpr ⟨lw_p41, List.forall_mem_cons.mpr ⟨lw_p42, List.forall_mem_cons.mpr ⟨lw_p43, List.forall_mem_cons.mpr ⟨lw_p44, List.forall_mem_cons.mpr ⟨lw_p45, List.forall_mem_cons.mpr ⟨lw_p46, List.forall_mem_cons.mpr ⟨lw_p47, fun _ h => absurd h List.not_mem_nil⟩⟩⟩⟩⟩⟩⟩⟩⟩⟩⟩⟩⟩⟩⟩⟩
theorem lw_p48 : lw_okq (⟨"InnRoadModel", "isSound", "([I)Z"⟩, 25) := ⟨⟨by decide +kernel, by decide +kernel⟩, lw_t10 (List.mem_of_getElem? (i := 90) rfl), lw_t11 (List.mem_of_getElem? (i := 62) rfl), lw_t11 (List.mem_of_getElem? (i := 63) rfl)⟩
theorem lw_p49 : lw_okq (⟨"InnRoadModel", "laysChain", "([I)V"⟩, 25) := ⟨⟨by decide +kernel, by decide +kernel⟩, lw_t10 (List.mem_of_getElem? (i := 90) rfl), lw_t11 (List.mem_of_getElem? (i := 66) rfl), lw_t11 (List.mem_of_getElem? (i := 67) rfl)⟩
theorem lw_p50 : lw_okq (⟨"InnRoadModel", "positionOf", "(I)I"⟩, 25) := ⟨⟨by decide +kernel, by decide +kernel⟩, lw_t10 (List.mem_of_getElem? (i := 90) rfl), lw_t11 (List.mem_of_getElem? (i := 74) rfl), lw_t11 (List.mem_of_getElem? (i := 75) rfl)⟩
theorem lw_p51 : lw_okq (⟨"InnRoadModel", "setsOpen", "(II)Z"⟩, 25) := ⟨⟨by decide +kernel, by decide +kernel⟩, lw_t10 (List.mem_of_getElem? (i := 90) rfl), lw_t11 (List.mem_of_getElem? (i := 89) rfl), lw_t11 (List.mem_of_getElem? (i := 90) rfl)⟩
theorem lw_p52 : lw_okq (⟨"InnRoadModel", "overwrites", "(II)I"⟩, 25) := ⟨⟨by decide +kernel, by decide +kernel⟩, lw_t10 (List.mem_of_getElem? (i := 90) rfl), lw_t11 (List.mem_of_getElem? (i := 117) rfl), lw_t11 (List.mem_of_getElem? (i := 118) rfl)⟩
theorem lw_p53 : lw_okq (⟨"InnRoadModel", "fault", "()I"⟩, 25) := ⟨⟨by decide +kernel, by decide +kernel⟩, lw_t10 (List.mem_of_getElem? (i := 90) rfl), lw_t11 (List.mem_of_getElem? (i := 142) rfl), lw_t11 (List.mem_of_getElem? (i := 143) rfl)⟩
theorem lw_p54 : lw_okq (⟨"InnRoadModel", "laysDue", "()V"⟩, 25) := ⟨⟨by decide +kernel, by decide +kernel⟩, lw_t10 (List.mem_of_getElem? (i := 90) rfl), lw_t11 (List.mem_of_getElem? (i := 146) rfl), lw_t11 (List.mem_of_getElem? (i := 147) rfl)⟩
theorem lw_p55 : lw_okq (⟨"InnRoadModel", "wrongOnes", "()I"⟩, 25) := ⟨⟨by decide +kernel, by decide +kernel⟩, lw_t10 (List.mem_of_getElem? (i := 90) rfl), lw_t11 (List.mem_of_getElem? (i := 157) rfl), lw_t11 (List.mem_of_getElem? (i := 158) rfl)⟩
theorem lw_p56 : lw_okq (⟨"InnRoadModel", "rides", "([III)Z"⟩, 25) := ⟨⟨by decide +kernel, by decide +kernel⟩, lw_t10 (List.mem_of_getElem? (i := 90) rfl), lw_t11 (List.mem_of_getElem? (i := 170) rfl), lw_t11 (List.mem_of_getElem? (i := 171) rfl)⟩
theorem lw_p57 : lw_okq (⟨"InnRoadModel", "ofInn", "(II)I"⟩, 25) := ⟨⟨by decide +kernel, by decide +kernel⟩, lw_t10 (List.mem_of_getElem? (i := 90) rfl), lw_t11 (List.mem_of_getElem? (i := 209) rfl), lw_t11 (List.mem_of_getElem? (i := 210) rfl)⟩
theorem lw_p58 : lw_okq (⟨"InnRoadModel", "openOnes", "()I"⟩, 25) := ⟨⟨by decide +kernel, by decide +kernel⟩, lw_t10 (List.mem_of_getElem? (i := 90) rfl), lw_t12 (List.mem_of_getElem? (i := 9) rfl), lw_t12 (List.mem_of_getElem? (i := 10) rfl)⟩
theorem lw_p59 : lw_okq (⟨"InnRoadModel", "dangles", "(I)I"⟩, 25) := ⟨⟨by decide +kernel, by decide +kernel⟩, lw_t10 (List.mem_of_getElem? (i := 90) rfl), lw_t12 (List.mem_of_getElem? (i := 63) rfl), lw_t12 (List.mem_of_getElem? (i := 64) rfl)⟩
theorem lw_p60 : lw_okq (⟨"InnRoadModel", "areInns", "(II)Z"⟩, 25) := ⟨⟨by decide +kernel, by decide +kernel⟩, lw_t10 (List.mem_of_getElem? (i := 90) rfl), lw_t12 (List.mem_of_getElem? (i := 87) rfl), lw_t12 (List.mem_of_getElem? (i := 88) rfl)⟩
theorem lw_p61 : lw_okq (⟨"InnRoadModel", "writes", "(Ljava/lang/String;)V"⟩, 25) := ⟨⟨by decide +kernel, by decide +kernel⟩, lw_t10 (List.mem_of_getElem? (i := 90) rfl), lw_t12 (List.mem_of_getElem? (i := 131) rfl), lw_t12 (List.mem_of_getElem? (i := 132) rfl)⟩
theorem lw_p62 : lw_okq (⟨"InnRoadModel", "writesByte", "(I)V"⟩, 25) := ⟨⟨by decide +kernel, by decide +kernel⟩, lw_t10 (List.mem_of_getElem? (i := 90) rfl), lw_t12 (List.mem_of_getElem? (i := 135) rfl), lw_t12 (List.mem_of_getElem? (i := 136) rfl)⟩
theorem lw_p63 : lw_okq (⟨"InnRoadModel", "writesNumber", "(I)V"⟩, 25) := ⟨⟨by decide +kernel, by decide +kernel⟩, lw_t10 (List.mem_of_getElem? (i := 90) rfl), lw_t12 (List.mem_of_getElem? (i := 139) rfl), lw_t12 (List.mem_of_getElem? (i := 140) rfl)⟩
def lw_privs_4 : List (MethodName × Nat) := [(⟨"InnRoadModel", "isSound", "([I)Z"⟩, 25), (⟨"InnRoadModel", "laysChain", "([I)V"⟩, 25), (⟨"InnRoadModel", "positionOf", "(I)I"⟩, 25), (⟨"InnRoadModel", "setsOpen", "(II)Z"⟩, 25), (⟨"InnRoadModel", "overwrites", "(II)I"⟩, 25), (⟨"InnRoadModel", "fault", "()I"⟩, 25), (⟨"InnRoadModel", "laysDue", "()V"⟩, 25), (⟨"InnRoadModel", "wrongOnes", "()I"⟩, 25), (⟨"InnRoadModel", "rides", "([III)Z"⟩, 25), (⟨"InnRoadModel", "ofInn", "(II)I"⟩, 25), (⟨"InnRoadModel", "openOnes", "()I"⟩, 25), (⟨"InnRoadModel", "dangles", "(I)I"⟩, 25), (⟨"InnRoadModel", "areInns", "(II)Z"⟩, 25), (⟨"InnRoadModel", "writes", "(Ljava/lang/String;)V"⟩, 25), (⟨"InnRoadModel", "writesByte", "(I)V"⟩, 25), (⟨"InnRoadModel", "writesNumber", "(I)V"⟩, 25)]
theorem lw_r4 : ∀ q ∈ lw_privs_4, lw_okq q := List.forall_mem_cons.mpr ⟨lw_p48, List.forall_mem_cons.mpr ⟨lw_p49, List.forall_mem_cons.mpr ⟨lw_p50, List.forall_mem_cons.mpr ⟨lw_p51, List.forall_mem_cons.mpr ⟨lw_p52, List.forall_mem_cons.mpr ⟨lw_p53, List.forall_mem_cons.mpr ⟨lw_p54, List.forall_mem_cons.mpr ⟨lw_p55, List.forall_mem_cons.mpr ⟨lw_p56, List.forall_mem_cons.mpr ⟨lw_p57, List.forall_mem_cons.mpr ⟨lw_p58, List.forall_mem_cons.mpr ⟨lw_p59, List.forall_mem_cons.mpr ⟨lw_p60, List.forall_mem_cons.mpr ⟨lw_p61, List.forall_mem_cons.mpr ⟨lw_p62, List.forall_mem_cons.mpr ⟨lw_p63, fun _ h => absurd h List.not_mem_nil⟩⟩⟩⟩⟩⟩⟩⟩⟩⟩⟩⟩⟩⟩⟩⟩
theorem lw_p64 : lw_okq (⟨"InnRoadModel", "writesDigits", "(I)V"⟩, 25) := ⟨⟨by decide +kernel, by decide +kernel⟩, lw_t10 (List.mem_of_getElem? (i := 90) rfl), lw_t12 (List.mem_of_getElem? (i := 143) rfl), lw_t12 (List.mem_of_getElem? (i := 144) rfl)⟩
theorem lw_p65 : lw_okq (⟨"InnRoadModel", "writesInn", "(I)V"⟩, 25) := ⟨⟨by decide +kernel, by decide +kernel⟩, lw_t10 (List.mem_of_getElem? (i := 90) rfl), lw_t12 (List.mem_of_getElem? (i := 147) rfl), lw_t12 (List.mem_of_getElem? (i := 148) rfl)⟩
theorem lw_p66 : lw_okq (⟨"InnRoadModel", "isWrong", "(I)Z"⟩, 25) := ⟨⟨by decide +kernel, by decide +kernel⟩, lw_t10 (List.mem_of_getElem? (i := 90) rfl), lw_t12 (List.mem_of_getElem? (i := 155) rfl), lw_t12 (List.mem_of_getElem? (i := 156) rfl)⟩
theorem lw_p67 : lw_okq (⟨"InnRoadModel", "writesPointer", "(I)V"⟩, 25) := ⟨⟨by decide +kernel, by decide +kernel⟩, lw_t10 (List.mem_of_getElem? (i := 90) rfl), lw_t12 (List.mem_of_getElem? (i := 160) rfl), lw_t12 (List.mem_of_getElem? (i := 161) rfl)⟩
theorem lw_p68 : lw_okq (⟨"InnRoadModel", "writesRow", "(Ljava/lang/String;I)V"⟩, 25) := ⟨⟨by decide +kernel, by decide +kernel⟩, lw_t10 (List.mem_of_getElem? (i := 90) rfl), lw_t12 (List.mem_of_getElem? (i := 168) rfl), lw_t12 (List.mem_of_getElem? (i := 169) rfl)⟩
def lw_privs_5 : List (MethodName × Nat) := [(⟨"InnRoadModel", "writesDigits", "(I)V"⟩, 25), (⟨"InnRoadModel", "writesInn", "(I)V"⟩, 25), (⟨"InnRoadModel", "isWrong", "(I)Z"⟩, 25), (⟨"InnRoadModel", "writesPointer", "(I)V"⟩, 25), (⟨"InnRoadModel", "writesRow", "(Ljava/lang/String;I)V"⟩, 25)]
theorem lw_r5 : ∀ q ∈ lw_privs_5, lw_okq q := List.forall_mem_cons.mpr ⟨lw_p64, List.forall_mem_cons.mpr ⟨lw_p65, List.forall_mem_cons.mpr ⟨lw_p66, List.forall_mem_cons.mpr ⟨lw_p67, List.forall_mem_cons.mpr ⟨lw_p68, fun _ h => absurd h List.not_mem_nil⟩⟩⟩⟩⟩
def lw_privs : List (MethodName × Nat) := lw_privs_1 ++ (lw_privs_2 ++ (lw_privs_3 ++ (lw_privs_4 ++ (lw_privs_5))))
def lw_tbl : List Cond := k2_sels lw_privs ++ tables_1
theorem lw_privs_ok : ∀ q ∈ lw_privs, lw_okq q := by
  show ∀ q ∈ lw_privs_1 ++ (lw_privs_2 ++ (lw_privs_3 ++ (lw_privs_4 ++ (lw_privs_5)))), lw_okq q
  exact List.forall_mem_append.mpr ⟨lw_r1, List.forall_mem_append.mpr ⟨lw_r2, List.forall_mem_append.mpr ⟨lw_r3, List.forall_mem_append.mpr ⟨lw_r4, lw_r5⟩⟩⟩⟩
-- ===== ONE list of words for every method: the tables' words that hold all through a run =====
def lw_all : List Cond := lw_tbl.filter goodWord
/-- a word of the tables by its place: claim/WORDS.tsv -/
theorem lw_w {w : Cond} (i : Nat) (h : lw_tbl[i]? = some w) (g : goodWord w = true) : w ∈ lw_all := List.mem_filter.mpr ⟨List.mem_of_getElem? h, g⟩
theorem lw_all_tbl {w : Cond} (h : w ∈ lw_all) : w ∈ lw_tbl := (List.mem_filter.mp h).1
theorem lw_self : GoodIn lw_all lw_all := fun w h => ⟨h, good_of_word (List.mem_filter.mp h).2⟩
/-- a class's field words, by their places -/
theorem lw_in (ws : List Cond) (ps : List Nat) (hp : ws = ps.filterMap (fun i => lw_tbl[i]?)) (hg : ws.all goodWord = true) : ∀ w ∈ ws, w ∈ lw_all := by
  intro w h
  have h1 := List.all_eq_true.mp hg w h
  rw [hp] at h
  obtain ⟨i, -, hi⟩ := List.mem_filterMap.mp h
  exact lw_w i hi h1
/-- the words of a contract for the method y with code b, L locals, answer r -/
abbrev ws_ (y : MethodName) (b : ByteArray) (L : Nat) (r : Option FieldType) : List Cond := Cond.code y b L r :: lw_all
theorem lw_meth {y : MethodName} {b : ByteArray} {L : Nat} {r : Option FieldType} (h : Cond.code y b L r ∈ lw_all) : GoodIn lw_all (ws_ y b L r) := by
  intro w hw
  rcases List.mem_cons.mp hw with e | e
  · rw [e]
    exact lw_self _ h
  · exact lw_self _ e
theorem lw_app {a c : List Cond} (ha : ∀ w ∈ a, w ∈ lw_all) (hc : GoodIn lw_all c) : GoodIn lw_all (a ++ c) := by
  intro w hw
  rcases List.mem_append.mp hw with e | e
  · exact lw_self w (ha w e)
  · exact hc w e
/-- what a call through an object asks: cwV n hts (lw_V ..) -/
theorem lw_V {own : String} {idx : Nat} {C : String} {y : MethodName} {b : ByteArray} {L : Nat} {r : Option FieldType} (h1 : Cond.methodLink own idx y ∈ lw_all) (h2 : Cond.instanceMethod y ∈ lw_all) (h3 : Cond.selects C y y ∈ lw_all) (h4 : Cond.initialized C ∈ lw_all) (h5 : Cond.code y b L r ∈ lw_all) : GoodIn lw_all (wsV own idx C y (ws_ y b L r)) := by
  refine lw_app ?_ (lw_meth h5)
  intro w hw
  simp only [List.mem_cons, List.not_mem_nil, or_false] at hw
  rcases hw with e | e | e | e
  · rw [e]; exact h1
  · rw [e]; exact h2
  · rw [e]; exact h3
  · rw [e]; exact h4
/-- what a static call asks: va_cwS n hts (lw_S ..) -/
theorem lw_S {own : String} {idx : Nat} {y : MethodName} {b : ByteArray} {L : Nat} {r : Option FieldType} (h1 : Cond.methodLink own idx y ∈ lw_all) (h2 : Cond.static y ∈ lw_all) (h3 : Cond.initialized y.cls ∈ lw_all) (h4 : Cond.code y b L r ∈ lw_all) : GoodIn lw_all (va_wsS own idx y (ws_ y b L r)) := by
  refine lw_app ?_ (lw_meth h4)
  intro w hw
  simp only [List.mem_cons, List.not_mem_nil, or_false] at hw
  rcases hw with e | e | e
  · rw [e]; exact h1
  · rw [e]; exact h2
  · rw [e]; exact h3
/-- the words of a contract for a method WITH HANDLERS (hh: its table) -/
abbrev wsW_ (y : MethodName) (b : ByteArray) (L : Nat) (r : Option FieldType) (hh : List (Nat × Nat × Nat × Nat)) : List Cond := Cond.codeWith y b L r hh :: lw_all
theorem lw_methW {y : MethodName} {b : ByteArray} {L : Nat} {r : Option FieldType} {hh : List (Nat × Nat × Nat × Nat)} (h : Cond.codeWith y b L r hh ∈ lw_all) : GoodIn lw_all (wsW_ y b L r hh) := by
  intro w hw
  rcases List.mem_cons.mp hw with e | e
  · rw [e]
    exact lw_self _ h
  · exact lw_self _ e
/-- any list of words by their places (lw_in), good -/
theorem lw_good {ws : List Cond} (h : ∀ w ∈ ws, w ∈ lw_all) : GoodIn lw_all ws := fun w hw => lw_self w (h w hw)
/-- what a call of a method with handlers asks: vx_cwVW n hts (lw_VW ..), vx_cwSW n hts (lw_SW ..) -/
theorem lw_VW {own : String} {idx : Nat} {C : String} {y : MethodName} {b : ByteArray} {L : Nat} {r : Option FieldType} {hh : List (Nat × Nat × Nat × Nat)} (h1 : Cond.methodLink own idx y ∈ lw_all) (h2 : Cond.instanceMethod y ∈ lw_all) (h3 : Cond.selects C y y ∈ lw_all) (h4 : Cond.initialized C ∈ lw_all) (h5 : Cond.codeWith y b L r hh ∈ lw_all) : GoodIn lw_all (wsV own idx C y (wsW_ y b L r hh)) := by
  refine lw_app ?_ (lw_methW h5)
  intro w hw
  simp only [List.mem_cons, List.not_mem_nil, or_false] at hw
  rcases hw with e | e | e | e
  · rw [e]; exact h1
  · rw [e]; exact h2
  · rw [e]; exact h3
  · rw [e]; exact h4
theorem lw_SW {own : String} {idx : Nat} {y : MethodName} {b : ByteArray} {L : Nat} {r : Option FieldType} {hh : List (Nat × Nat × Nat × Nat)} (h1 : Cond.methodLink own idx y ∈ lw_all) (h2 : Cond.static y ∈ lw_all) (h3 : Cond.initialized y.cls ∈ lw_all) (h4 : Cond.codeWith y b L r hh ∈ lw_all) : GoodIn lw_all (va_wsS own idx y (wsW_ y b L r hh)) := by
  refine lw_app ?_ (lw_methW h4)
  intro w hw
  simp only [List.mem_cons, List.not_mem_nil, or_false] at hw
  rcases hw with e | e | e
  · rw [e]; exact h1
  · rw [e]; exact h2
  · rw [e]; exact h3
/-- a word by its place in its run of the tables -/
theorem lw_at {r : List Cond} (hr : ∀ w ∈ r, w ∈ lw_tbl) {w : Cond} (i : Nat) (h : r[i]? = some w) : w ∈ lw_tbl := hr w (List.mem_of_getElem? h)
theorem lw_g {w : Cond} (h : w ∈ lw_tbl) (g : goodWord w = true) : w ∈ lw_all := List.mem_filter.mpr ⟨h, g⟩
theorem lw_ms : ∀ w ∈ k2_sels lw_privs, w ∈ lw_tbl := fun w h => show w ∈ k2_sels lw_privs ++ tables_1 from List.mem_append_left _ h
theorem lw_m1 : ∀ w ∈ tables_1_1, w ∈ lw_tbl := fun w h => show w ∈ k2_sels lw_privs ++ tables_1 from List.mem_append_right (k2_sels lw_privs) (show w ∈ tables_1 from List.mem_append_left _ h)
theorem lw_m2 : ∀ w ∈ tables_1_2, w ∈ lw_tbl := fun w h => show w ∈ k2_sels lw_privs ++ tables_1 from List.mem_append_right (k2_sels lw_privs) (show w ∈ tables_1 from List.mem_append_right _ (List.mem_append_left _ h))
theorem lw_m3 : ∀ w ∈ tables_1_3, w ∈ lw_tbl := fun w h => show w ∈ k2_sels lw_privs ++ tables_1 from List.mem_append_right (k2_sels lw_privs) (show w ∈ tables_1 from List.mem_append_right _ (List.mem_append_right _ (List.mem_append_left _ h)))
theorem lw_m4 : ∀ w ∈ tables_1_4, w ∈ lw_tbl := fun w h => show w ∈ k2_sels lw_privs ++ tables_1 from List.mem_append_right (k2_sels lw_privs) (show w ∈ tables_1 from List.mem_append_right _ (List.mem_append_right _ (List.mem_append_right _ (List.mem_append_left _ h))))
theorem lw_m5 : ∀ w ∈ tables_1_5, w ∈ lw_tbl := fun w h => show w ∈ k2_sels lw_privs ++ tables_1 from List.mem_append_right (k2_sels lw_privs) (show w ∈ tables_1 from List.mem_append_right _ (List.mem_append_right _ (List.mem_append_right _ (List.mem_append_right _ (List.mem_append_left _ h)))))
theorem lw_m6 : ∀ w ∈ tables_1_6, w ∈ lw_tbl := fun w h => show w ∈ k2_sels lw_privs ++ tables_1 from List.mem_append_right (k2_sels lw_privs) (show w ∈ tables_1 from List.mem_append_right _ (List.mem_append_right _ (List.mem_append_right _ (List.mem_append_right _ (List.mem_append_right _ (List.mem_append_left _ h))))))
theorem lw_m7 : ∀ w ∈ tables_1_7, w ∈ lw_tbl := fun w h => show w ∈ k2_sels lw_privs ++ tables_1 from List.mem_append_right (k2_sels lw_privs) (show w ∈ tables_1 from List.mem_append_right _ (List.mem_append_right _ (List.mem_append_right _ (List.mem_append_right _ (List.mem_append_right _ (List.mem_append_right _ (List.mem_append_left _ h)))))))
theorem lw_m8 : ∀ w ∈ tables_1_8, w ∈ lw_tbl := fun w h => show w ∈ k2_sels lw_privs ++ tables_1 from List.mem_append_right (k2_sels lw_privs) (show w ∈ tables_1 from List.mem_append_right _ (List.mem_append_right _ (List.mem_append_right _ (List.mem_append_right _ (List.mem_append_right _ (List.mem_append_right _ (List.mem_append_right _ (List.mem_append_left _ h))))))))
theorem lw_m9 : ∀ w ∈ tables_1_9, w ∈ lw_tbl := fun w h => show w ∈ k2_sels lw_privs ++ tables_1 from List.mem_append_right (k2_sels lw_privs) (show w ∈ tables_1 from List.mem_append_right _ (List.mem_append_right _ (List.mem_append_right _ (List.mem_append_right _ (List.mem_append_right _ (List.mem_append_right _ (List.mem_append_right _ (List.mem_append_right _ (List.mem_append_left _ h)))))))))
theorem lw_m10 : ∀ w ∈ tables_1_10, w ∈ lw_tbl := fun w h => show w ∈ k2_sels lw_privs ++ tables_1 from List.mem_append_right (k2_sels lw_privs) (show w ∈ tables_1 from List.mem_append_right _ (List.mem_append_right _ (List.mem_append_right _ (List.mem_append_right _ (List.mem_append_right _ (List.mem_append_right _ (List.mem_append_right _ (List.mem_append_right _ (List.mem_append_right _ (List.mem_append_left _ h))))))))))
theorem lw_m11 : ∀ w ∈ tables_1_11, w ∈ lw_tbl := fun w h => show w ∈ k2_sels lw_privs ++ tables_1 from List.mem_append_right (k2_sels lw_privs) (show w ∈ tables_1 from List.mem_append_right _ (List.mem_append_right _ (List.mem_append_right _ (List.mem_append_right _ (List.mem_append_right _ (List.mem_append_right _ (List.mem_append_right _ (List.mem_append_right _ (List.mem_append_right _ (List.mem_append_right _ (List.mem_append_left _ h)))))))))))
theorem lw_m12 : ∀ w ∈ tables_1_12, w ∈ lw_tbl := fun w h => show w ∈ k2_sels lw_privs ++ tables_1 from List.mem_append_right (k2_sels lw_privs) (show w ∈ tables_1 from List.mem_append_right _ (List.mem_append_right _ (List.mem_append_right _ (List.mem_append_right _ (List.mem_append_right _ (List.mem_append_right _ (List.mem_append_right _ (List.mem_append_right _ (List.mem_append_right _ (List.mem_append_right _ (List.mem_append_right _ h)))))))))))
theorem qs0 : (Cond.selects "InnRoad$Road" ⟨"InnRoad$Road", "byMiles", "()Ljava/util/List;"⟩ ⟨"InnRoad$Road", "byMiles", "()Ljava/util/List;"⟩) ∈ lw_all := lw_g (lw_at lw_ms 0 rfl) rfl
theorem qs1 : (Cond.selects "java/util/ArrayList" ⟨"java/util/ArrayList", "rangeCheckForAdd", "(I)V"⟩ ⟨"java/util/ArrayList", "rangeCheckForAdd", "(I)V"⟩) ∈ lw_all := lw_g (lw_at lw_ms 1 rfl) rfl
theorem qs2 : (Cond.selects "java/lang/Throwable" ⟨"java/lang/Throwable", "fillInStackTrace", "(I)Ljava/lang/Throwable;"⟩ ⟨"java/lang/Throwable", "fillInStackTrace", "(I)Ljava/lang/Throwable;"⟩) ∈ lw_all := lw_g (lw_at lw_ms 2 rfl) rfl
theorem qs3 : (Cond.selects "java/util/ArrayList" ⟨"java/util/ArrayList", "outOfBoundsMsg", "(I)Ljava/lang/String;"⟩ ⟨"java/util/ArrayList", "outOfBoundsMsg", "(I)Ljava/lang/String;"⟩) ∈ lw_all := lw_g (lw_at lw_ms 3 rfl) rfl
theorem qs4 : (Cond.selects "java/util/ArrayList" ⟨"java/util/ArrayList", "grow", "()[Ljava/lang/Object;"⟩ ⟨"java/util/ArrayList", "grow", "()[Ljava/lang/Object;"⟩) ∈ lw_all := lw_g (lw_at lw_ms 4 rfl) rfl
theorem qs5 : (Cond.selects "java/util/ArrayList" ⟨"java/util/ArrayList", "grow", "(I)[Ljava/lang/Object;"⟩ ⟨"java/util/ArrayList", "grow", "(I)[Ljava/lang/Object;"⟩) ∈ lw_all := lw_g (lw_at lw_ms 5 rfl) rfl
theorem qs6 : (Cond.selects "InnRoad$Road" ⟨"InnRoad$Road", "wrongAt", "(ILInnRoad$Links;)I"⟩ ⟨"InnRoad$Road", "wrongAt", "(ILInnRoad$Links;)I"⟩) ∈ lw_all := lw_g (lw_at lw_ms 6 rfl) rfl
theorem qs7 : (Cond.selects "InnRoad$Parser" ⟨"InnRoad$Parser", "advance", "()V"⟩ ⟨"InnRoad$Parser", "advance", "()V"⟩) ∈ lw_all := lw_g (lw_at lw_ms 7 rfl) rfl
theorem qs8 : (Cond.selects "InnRoad$Parser" ⟨"InnRoad$Parser", "isByteBetween", "(CC)Z"⟩ ⟨"InnRoad$Parser", "isByteBetween", "(CC)Z"⟩) ∈ lw_all := lw_g (lw_at lw_ms 8 rfl) rfl
theorem qs9 : (Cond.selects "InnRoad$Parser" ⟨"InnRoad$Parser", "readNumber", "()V"⟩ ⟨"InnRoad$Parser", "readNumber", "()V"⟩) ∈ lw_all := lw_g (lw_at lw_ms 9 rfl) rfl
theorem qs10 : (Cond.selects "InnRoad$Parser" ⟨"InnRoad$Parser", "accepts", "(Ljava/lang/String;)Z"⟩ ⟨"InnRoad$Parser", "accepts", "(Ljava/lang/String;)Z"⟩) ∈ lw_all := lw_g (lw_at lw_ms 10 rfl) rfl
theorem qs11 : (Cond.selects "InnRoad$Parser" ⟨"InnRoad$Parser", "require", "(Z)V"⟩ ⟨"InnRoad$Parser", "require", "(Z)V"⟩) ∈ lw_all := lw_g (lw_at lw_ms 11 rfl) rfl
theorem qs12 : (Cond.selects "InnRoad$Parser" ⟨"InnRoad$Parser", "expectNumber", "(II)I"⟩ ⟨"InnRoad$Parser", "expectNumber", "(II)I"⟩) ∈ lw_all := lw_g (lw_at lw_ms 12 rfl) rfl
theorem qs13 : (Cond.selects "InnRoad$Parser" ⟨"InnRoad$Parser", "parseSeparator", "()Z"⟩ ⟨"InnRoad$Parser", "parseSeparator", "()Z"⟩) ∈ lw_all := lw_g (lw_at lw_ms 13 rfl) rfl
theorem qs14 : (Cond.selects "InnRoad$Parser" ⟨"InnRoad$Parser", "parseInn", "(LInnRoad$Road;)V"⟩ ⟨"InnRoad$Parser", "parseInn", "(LInnRoad$Road;)V"⟩) ∈ lw_all := lw_g (lw_at lw_ms 14 rfl) rfl
theorem qs15 : (Cond.selects "InnRoad$Parser" ⟨"InnRoad$Parser", "expectIndex", "(Ljava/lang/String;)I"⟩ ⟨"InnRoad$Parser", "expectIndex", "(Ljava/lang/String;)I"⟩) ∈ lw_all := lw_g (lw_at lw_ms 15 rfl) rfl
theorem qs16 : (Cond.selects "InnRoad$Parser" ⟨"InnRoad$Parser", "parseValues", "(LInnRoad$Road;)V"⟩ ⟨"InnRoad$Parser", "parseValues", "(LInnRoad$Road;)V"⟩) ∈ lw_all := lw_g (lw_at lw_ms 16 rfl) rfl
theorem qs17 : (Cond.selects "InnRoad$Parser" ⟨"InnRoad$Parser", "expectPointer", "()I"⟩ ⟨"InnRoad$Parser", "expectPointer", "()I"⟩) ∈ lw_all := lw_g (lw_at lw_ms 17 rfl) rfl
theorem qs18 : (Cond.selects "InnRoad$Parser" ⟨"InnRoad$Parser", "parsePointers", "(LInnRoad$Road;Ljava/lang/String;[I)Z"⟩ ⟨"InnRoad$Parser", "parsePointers", "(LInnRoad$Road;Ljava/lang/String;[I)Z"⟩) ∈ lw_all := lw_g (lw_at lw_ms 18 rfl) rfl
theorem qs19 : (Cond.selects "InnRoad" ⟨"InnRoad", "change", "()LInnRoad$Road;"⟩ ⟨"InnRoad", "change", "()LInnRoad$Road;"⟩) ∈ lw_all := lw_g (lw_at lw_ms 19 rfl) rfl
theorem qs20 : (Cond.selects "InnRoad" ⟨"InnRoad", "replaceBy", "(LInnRoad$Road;)V"⟩ ⟨"InnRoad", "replaceBy", "(LInnRoad$Road;)V"⟩) ∈ lw_all := lw_g (lw_at lw_ms 20 rfl) rfl
theorem qs21 : (Cond.selects "java/util/ArrayDeque" ⟨"java/util/ArrayDeque", "grow", "(I)V"⟩ ⟨"java/util/ArrayDeque", "grow", "(I)V"⟩) ∈ lw_all := lw_g (lw_at lw_ms 21 rfl) rfl
theorem qs22 : (Cond.selects "java/util/ArrayDeque" ⟨"java/util/ArrayDeque", "newCapacity", "(II)I"⟩ ⟨"java/util/ArrayDeque", "newCapacity", "(II)I"⟩) ∈ lw_all := lw_g (lw_at lw_ms 22 rfl) rfl
theorem qs23 : (Cond.selects "java/util/ArrayList" ⟨"java/util/ArrayList", "add", "(Ljava/lang/Object;[Ljava/lang/Object;I)V"⟩ ⟨"java/util/ArrayList", "add", "(Ljava/lang/Object;[Ljava/lang/Object;I)V"⟩) ∈ lw_all := lw_g (lw_at lw_ms 23 rfl) rfl
theorem qs24 : (Cond.selects "InnRoad$Road" ⟨"InnRoad$Road", "danglingAt", "(I)I"⟩ ⟨"InnRoad$Road", "danglingAt", "(I)I"⟩) ∈ lw_all := lw_g (lw_at lw_ms 24 rfl) rfl
theorem qs25 : (Cond.selects "InnRoad" ⟨"InnRoad", "writeValues", "(Ljava/lang/StringBuilder;)V"⟩ ⟨"InnRoad", "writeValues", "(Ljava/lang/StringBuilder;)V"⟩) ∈ lw_all := lw_g (lw_at lw_ms 25 rfl) rfl
theorem qs26 : (Cond.selects "InnRoad" ⟨"InnRoad", "inn", "(I)LInnRoad$Inn;"⟩ ⟨"InnRoad", "inn", "(I)LInnRoad$Inn;"⟩) ∈ lw_all := lw_g (lw_at lw_ms 26 rfl) rfl
theorem qs27 : (Cond.selects "InnRoad" ⟨"InnRoad", "setOpen", "(IZ)Z"⟩ ⟨"InnRoad", "setOpen", "(IZ)Z"⟩) ∈ lw_all := lw_g (lw_at lw_ms 27 rfl) rfl
theorem qs28 : (Cond.selects "InnRoad" ⟨"InnRoad", "ride", "(II)LInnRoad$Ride;"⟩ ⟨"InnRoad", "ride", "(II)LInnRoad$Ride;"⟩) ∈ lw_all := lw_g (lw_at lw_ms 28 rfl) rfl
theorem qs29 : (Cond.selects "InnRoad" ⟨"InnRoad", "checkInns", "(II)V"⟩ ⟨"InnRoad", "checkInns", "(II)V"⟩) ∈ lw_all := lw_g (lw_at lw_ms 29 rfl) rfl
theorem qs30 : (Cond.selects "InnRoad" ⟨"InnRoad", "isReachableIf", "(IIIZ)Z"⟩ ⟨"InnRoad", "isReachableIf", "(IIIZ)Z"⟩) ∈ lw_all := lw_g (lw_at lw_ms 30 rfl) rfl
theorem qs31 : (Cond.selects "InnRoadModel" ⟨"InnRoadModel", "fails", "(I)I"⟩ ⟨"InnRoadModel", "fails", "(I)I"⟩) ∈ lw_all := lw_g (lw_at lw_ms 31 rfl) rfl
theorem qs32 : (Cond.selects "InnRoadModel" ⟨"InnRoadModel", "brings", "(I)V"⟩ ⟨"InnRoadModel", "brings", "(I)V"⟩) ∈ lw_all := lw_g (lw_at lw_ms 32 rfl) rfl
theorem qs33 : (Cond.selects "InnRoadModel" ⟨"InnRoadModel", "reads", "()Z"⟩ ⟨"InnRoadModel", "reads", "()Z"⟩) ∈ lw_all := lw_g (lw_at lw_ms 33 rfl) rfl
theorem qs34 : (Cond.selects "InnRoadModel" ⟨"InnRoadModel", "advances", "()V"⟩ ⟨"InnRoadModel", "advances", "()V"⟩) ∈ lw_all := lw_g (lw_at lw_ms 34 rfl) rfl
theorem qs35 : (Cond.selects "InnRoadModel" ⟨"InnRoadModel", "isLower", "(I)Z"⟩ ⟨"InnRoadModel", "isLower", "(I)Z"⟩) ∈ lw_all := lw_g (lw_at lw_ms 35 rfl) rfl
theorem qs36 : (Cond.selects "InnRoadModel" ⟨"InnRoadModel", "isDigit", "(I)Z"⟩ ⟨"InnRoadModel", "isDigit", "(I)Z"⟩) ∈ lw_all := lw_g (lw_at lw_ms 36 rfl) rfl
theorem qs37 : (Cond.selects "InnRoadModel" ⟨"InnRoadModel", "readsWord", "(Ljava/lang/String;)Z"⟩ ⟨"InnRoadModel", "readsWord", "(Ljava/lang/String;)Z"⟩) ∈ lw_all := lw_g (lw_at lw_ms 37 rfl) rfl
theorem qs38 : (Cond.selects "InnRoadModel" ⟨"InnRoadModel", "isWord", "(Ljava/lang/String;)Z"⟩ ⟨"InnRoadModel", "isWord", "(Ljava/lang/String;)Z"⟩) ∈ lw_all := lw_g (lw_at lw_ms 38 rfl) rfl
theorem qs39 : (Cond.selects "InnRoadModel" ⟨"InnRoadModel", "readsNumber", "(II)Z"⟩ ⟨"InnRoadModel", "readsNumber", "(II)Z"⟩) ∈ lw_all := lw_g (lw_at lw_ms 39 rfl) rfl
theorem qs40 : (Cond.selects "InnRoadModel" ⟨"InnRoadModel", "isNumber", "(II)Z"⟩ ⟨"InnRoadModel", "isNumber", "(II)Z"⟩) ∈ lw_all := lw_g (lw_at lw_ms 40 rfl) rfl
theorem qs41 : (Cond.selects "InnRoadModel" ⟨"InnRoadModel", "isSign", "(I)Z"⟩ ⟨"InnRoadModel", "isSign", "(I)Z"⟩) ∈ lw_all := lw_g (lw_at lw_ms 41 rfl) rfl
theorem qs42 : (Cond.selects "InnRoadModel" ⟨"InnRoadModel", "partAt", "()I"⟩ ⟨"InnRoadModel", "partAt", "()I"⟩) ∈ lw_all := lw_g (lw_at lw_ms 42 rfl) rfl
theorem qs43 : (Cond.selects "InnRoadModel" ⟨"InnRoadModel", "readsPart", "(II)Z"⟩ ⟨"InnRoadModel", "readsPart", "(II)Z"⟩) ∈ lw_all := lw_g (lw_at lw_ms 43 rfl) rfl
theorem qs44 : (Cond.selects "InnRoadModel" ⟨"InnRoadModel", "readsInn", "(I)Z"⟩ ⟨"InnRoadModel", "readsInn", "(I)Z"⟩) ∈ lw_all := lw_g (lw_at lw_ms 44 rfl) rfl
theorem qs45 : (Cond.selects "InnRoadModel" ⟨"InnRoadModel", "readsPointer", "(I)Z"⟩ ⟨"InnRoadModel", "readsPointer", "(I)Z"⟩) ∈ lw_all := lw_g (lw_at lw_ms 45 rfl) rfl
theorem qs46 : (Cond.selects "InnRoadModel" ⟨"InnRoadModel", "readsOwnPointer", "(II)Z"⟩ ⟨"InnRoadModel", "readsOwnPointer", "(II)Z"⟩) ∈ lw_all := lw_g (lw_at lw_ms 46 rfl) rfl
theorem qs47 : (Cond.selects "InnRoadModel" ⟨"InnRoadModel", "remembers", "()V"⟩ ⟨"InnRoadModel", "remembers", "()V"⟩) ∈ lw_all := lw_g (lw_at lw_ms 47 rfl) rfl
theorem qs48 : (Cond.selects "InnRoadModel" ⟨"InnRoadModel", "isSound", "([I)Z"⟩ ⟨"InnRoadModel", "isSound", "([I)Z"⟩) ∈ lw_all := lw_g (lw_at lw_ms 48 rfl) rfl
theorem qs49 : (Cond.selects "InnRoadModel" ⟨"InnRoadModel", "laysChain", "([I)V"⟩ ⟨"InnRoadModel", "laysChain", "([I)V"⟩) ∈ lw_all := lw_g (lw_at lw_ms 49 rfl) rfl
theorem qs50 : (Cond.selects "InnRoadModel" ⟨"InnRoadModel", "positionOf", "(I)I"⟩ ⟨"InnRoadModel", "positionOf", "(I)I"⟩) ∈ lw_all := lw_g (lw_at lw_ms 50 rfl) rfl
theorem qs51 : (Cond.selects "InnRoadModel" ⟨"InnRoadModel", "setsOpen", "(II)Z"⟩ ⟨"InnRoadModel", "setsOpen", "(II)Z"⟩) ∈ lw_all := lw_g (lw_at lw_ms 51 rfl) rfl
theorem qs52 : (Cond.selects "InnRoadModel" ⟨"InnRoadModel", "overwrites", "(II)I"⟩ ⟨"InnRoadModel", "overwrites", "(II)I"⟩) ∈ lw_all := lw_g (lw_at lw_ms 52 rfl) rfl
theorem qs53 : (Cond.selects "InnRoadModel" ⟨"InnRoadModel", "fault", "()I"⟩ ⟨"InnRoadModel", "fault", "()I"⟩) ∈ lw_all := lw_g (lw_at lw_ms 53 rfl) rfl
theorem qs54 : (Cond.selects "InnRoadModel" ⟨"InnRoadModel", "laysDue", "()V"⟩ ⟨"InnRoadModel", "laysDue", "()V"⟩) ∈ lw_all := lw_g (lw_at lw_ms 54 rfl) rfl
theorem qs55 : (Cond.selects "InnRoadModel" ⟨"InnRoadModel", "wrongOnes", "()I"⟩ ⟨"InnRoadModel", "wrongOnes", "()I"⟩) ∈ lw_all := lw_g (lw_at lw_ms 55 rfl) rfl
theorem qs56 : (Cond.selects "InnRoadModel" ⟨"InnRoadModel", "rides", "([III)Z"⟩ ⟨"InnRoadModel", "rides", "([III)Z"⟩) ∈ lw_all := lw_g (lw_at lw_ms 56 rfl) rfl
theorem qs57 : (Cond.selects "InnRoadModel" ⟨"InnRoadModel", "ofInn", "(II)I"⟩ ⟨"InnRoadModel", "ofInn", "(II)I"⟩) ∈ lw_all := lw_g (lw_at lw_ms 57 rfl) rfl
theorem qs58 : (Cond.selects "InnRoadModel" ⟨"InnRoadModel", "openOnes", "()I"⟩ ⟨"InnRoadModel", "openOnes", "()I"⟩) ∈ lw_all := lw_g (lw_at lw_ms 58 rfl) rfl
theorem qs59 : (Cond.selects "InnRoadModel" ⟨"InnRoadModel", "dangles", "(I)I"⟩ ⟨"InnRoadModel", "dangles", "(I)I"⟩) ∈ lw_all := lw_g (lw_at lw_ms 59 rfl) rfl
theorem qs60 : (Cond.selects "InnRoadModel" ⟨"InnRoadModel", "areInns", "(II)Z"⟩ ⟨"InnRoadModel", "areInns", "(II)Z"⟩) ∈ lw_all := lw_g (lw_at lw_ms 60 rfl) rfl
theorem qs61 : (Cond.selects "InnRoadModel" ⟨"InnRoadModel", "writes", "(Ljava/lang/String;)V"⟩ ⟨"InnRoadModel", "writes", "(Ljava/lang/String;)V"⟩) ∈ lw_all := lw_g (lw_at lw_ms 61 rfl) rfl
theorem qs62 : (Cond.selects "InnRoadModel" ⟨"InnRoadModel", "writesByte", "(I)V"⟩ ⟨"InnRoadModel", "writesByte", "(I)V"⟩) ∈ lw_all := lw_g (lw_at lw_ms 62 rfl) rfl
theorem qs63 : (Cond.selects "InnRoadModel" ⟨"InnRoadModel", "writesNumber", "(I)V"⟩ ⟨"InnRoadModel", "writesNumber", "(I)V"⟩) ∈ lw_all := lw_g (lw_at lw_ms 63 rfl) rfl
theorem qs64 : (Cond.selects "InnRoadModel" ⟨"InnRoadModel", "writesDigits", "(I)V"⟩ ⟨"InnRoadModel", "writesDigits", "(I)V"⟩) ∈ lw_all := lw_g (lw_at lw_ms 64 rfl) rfl
theorem qs65 : (Cond.selects "InnRoadModel" ⟨"InnRoadModel", "writesInn", "(I)V"⟩ ⟨"InnRoadModel", "writesInn", "(I)V"⟩) ∈ lw_all := lw_g (lw_at lw_ms 65 rfl) rfl
theorem qs66 : (Cond.selects "InnRoadModel" ⟨"InnRoadModel", "isWrong", "(I)Z"⟩ ⟨"InnRoadModel", "isWrong", "(I)Z"⟩) ∈ lw_all := lw_g (lw_at lw_ms 66 rfl) rfl
theorem qs67 : (Cond.selects "InnRoadModel" ⟨"InnRoadModel", "writesPointer", "(I)V"⟩ ⟨"InnRoadModel", "writesPointer", "(I)V"⟩) ∈ lw_all := lw_g (lw_at lw_ms 67 rfl) rfl
theorem qs68 : (Cond.selects "InnRoadModel" ⟨"InnRoadModel", "writesRow", "(Ljava/lang/String;I)V"⟩ ⟨"InnRoadModel", "writesRow", "(Ljava/lang/String;I)V"⟩) ∈ lw_all := lw_g (lw_at lw_ms 68 rfl) rfl
-- ===== end of PART A; then your names; then what follows =====
