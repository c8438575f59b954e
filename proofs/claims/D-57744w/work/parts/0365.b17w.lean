set_option maxRecDepth 100000
theorem cw_X6_318 {R : Room} {s : State} {args : Array Value} (hts : ∀ w ∈ lw_all, w.before args s = true) {rm : Room} (hR : rm.frames + 1 ≤ R.frames ∧ 8 + (2 + 11) + rm.locals ≤ R.locals) : CallW R s args RX6 RX6 318 yX6_isWrong cX6_isWrong 2 (some .boolean) (ws_ yX6_isWrong cX6_isWrong 2 (some .boolean)) rm rm.cells rm.slots 1 := cwV 1 hts (lw_V q2863 q2865 qs66 q98 q2866) rfl rfl rfl (by decide +kernel) hR
theorem cw_X6_321 {R : Room} {s : State} {args : Array Value} (hts : ∀ w ∈ lw_all, w.before args s = true) {rm : Room} (hR : rm.frames + 1 ≤ R.frames ∧ 8 + (2 + 11) + rm.locals ≤ R.locals) : CallW R s args RX6 RX6 321 yX6_writesPointer cX6_writesPointer 2 none (ws_ yX6_writesPointer cX6_writesPointer 2 none) rm rm.cells rm.slots 1 := cwV 1 hts (lw_V q2868 q2870 qs67 q98 q2871) rfl rfl rfl (by decide +kernel) hR
theorem cw_X6_324 {R : Room} {s : State} {args : Array Value} (hts : ∀ w ∈ lw_all, w.before args s = true) {rm : Room} (hR : rm.frames + 1 ≤ R.frames ∧ 8 + (2 + 11) + rm.locals ≤ R.locals) : CallW R s args RX6 RX6 324 yX6_writesInn cX6_writesInn 2 none (ws_ yX6_writesInn cX6_writesInn 2 none) rm rm.cells rm.slots 1 := cwV 1 hts (lw_V q2855 q2857 qs65 q98 q2858) rfl rfl rfl (by decide +kernel) hR
theorem cw_X6_335 {R : Room} {s : State} {args : Array Value} (hts : ∀ w ∈ lw_all, w.before args s = true) {rm : Room} (hR : rm.frames + 1 ≤ R.frames ∧ 8 + (4 + 11) + rm.locals ≤ R.locals) : CallW R s args RX6 RX6 335 yX6_writesRow cX6_writesRow 4 none (ws_ yX6_writesRow cX6_writesRow 4 none) rm rm.cells rm.slots 2 := cwV 2 hts (lw_V q2876 q2878 qs68 q98 q2879) rfl rfl rfl (by decide +kernel) hR
section
variable {p : Program} {l : Launch} {e : Env} {s : State} {m : MethodId} {args : Array Value} {below : List Frame} {meth : Method} {c : Code} {g : gG} {F : nM} {adr : Nat → Nat}
abbrev rm_X6_isWrong : Room := ({ frames := 2, cells := 0, slots := 0, locals := 128 } : Room)
set_option maxHeartbeats 4000000 in
theorem wk_X6_isWrong (l : Launch) (g : gG) (F : nM) (adr : Nat → Nat) (i : Nat → Int32) (a : Nat → Nat → Int32) (q : Nat → Nat) (x : Int32) (post : Int32 → Prop) (hw : wp_X6_isWrong post i a q x) : Met l yX6_isWrong (ws_ yX6_isWrong cX6_isWrong 2 (some .boolean)) rm_X6_isWrong (va_Pc [.ref (adr 0), .int x] (Pg g (MS g F adr i a q))) (vp_Si post) 0 0 (fun _ => False) := by
  refine Met.ofW (cc := cX6_isWrong) (maxL := 2) (ret := (some .boolean)) (by decide) rfl ?_
  intro p e s m args below meth c s₁ B hml hv
  obtain ⟨rfl, hG, hM⟩ := hv
  have C : Cx p s m _ meth c cX6_isWrong 2 RX6 (some .boolean) g := Cx.of B hml hG
  have hx := C.1
  have hb := C.2.1
  have hown := C.2.2.2.1
  have hr := C.2.2.2.2.2.1
  have hlocks := C.2.2.2.2.2.2.1
  refine lv_start ([.ref (adr 0), .int x] : List Value) (L := [(0, .ref (adr 0)), (1, .int x)]) (Nat.le_of_ble_eq_true rfl) rfl (fun ls hl => ?_)
  refine lv_aload_n hx hb dX6_isWrong_0 rfl (lv_at hl 0 rfl) ?_
  refine m_get C hM 1 (by decide) q2339 rfl rfl dX6_isWrong_1 ?_
  refine lv_iload_n hx hb dX6_isWrong_4 rfl (lv_at hl 1 rfl) ?_
  refine vp_callSi (va_runS (As := [.ref (adr 1), .int x]) (rest := []) C.fix (met_X6_isStored l g F adr i a q 1 (by decide) x hw.1) (cw_X6_78 C.ts ⟨Nat.le_of_ble_eq_true rfl, Nat.le_of_ble_eq_true rfl⟩) (preS_of C (P := (MS g F adr i a q)) va_S.rf hM _) rfl rfl hl.1 rfl (lv_room (Nat.le_of_ble_eq_true rfl)) dX6_isWrong_5 ⟨Nat.le_of_ble_eq_true rfl, Nat.le_of_ble_eq_true rfl⟩).run (fun r1 er1 => ?_)
  have hw := hw.2 r1 er1
  refine lv_if_eq (tgt := 30) hx hb dX6_isWrong_8 (by decide) (fun c2 => ?_) (fun c2 => ?_)
  · have hw := hw.1 c2
    refine lv_iconst (v := 0) hx hb dX6_isWrong_30 (by decide) ?_
    exact W.zret (v := 0) hx hb hr hw.1 (fun t ht _ => ⟨0, rfl, hw.2, ht⟩) (fun _ h => by cases h) dX6_isWrong_31
  · have hw := hw.2 c2
    refine lv_aload_n hx hb dX6_isWrong_11 rfl (lv_at hl 0 rfl) ?_
    refine m_get C hM 1 (by decide) q2339 rfl rfl dX6_isWrong_12 ?_
    refine lv_iload_n hx hb dX6_isWrong_15 rfl (lv_at hl 1 rfl) ?_
    refine m_ald C hM (j := 1) rfl hw.1 dX6_isWrong_16 ?_
    have hw := hw.2
    refine lv_aload_n hx hb dX6_isWrong_17 rfl (lv_at hl 0 rfl) ?_
    refine m_get C hM 4 (by decide) q2342 rfl rfl dX6_isWrong_18 ?_
    refine lv_iload_n hx hb dX6_isWrong_21 rfl (lv_at hl 1 rfl) ?_
    refine m_ald C hM (j := 4) rfl hw.1 dX6_isWrong_22 ?_
    have hw := hw.2
    refine lv_icmp_eq (tgt := 30) hx hb dX6_isWrong_23 (by decide) (fun c3 => ?_) (fun c3 => ?_)
    · have hw := hw.1 c3
      refine lv_iconst (v := 0) hx hb dX6_isWrong_30 (by decide) ?_
      exact W.zret (v := 0) hx hb hr hw.1 (fun t ht _ => ⟨0, rfl, hw.2, ht⟩) (fun _ h => by cases h) dX6_isWrong_31
    · have hw := hw.2 c3
      refine lv_iconst (v := 1) hx hb dX6_isWrong_26 (by decide) ?_
      refine lv_goto (tgt := 31) hx hb dX6_isWrong_27 (by decide) ?_
      exact W.zret (v := 1) hx hb hr hw.1 (fun t ht _ => ⟨1, rfl, hw.2, ht⟩) (fun _ h => by cases h) dX6_isWrong_31
set_option maxHeartbeats 4000000 in
theorem met_X6_isWrong (l : Launch) (g : gG) (F : nM) (adr : Nat → Nat) (i : Nat → Int32) (a : Nat → Nat → Int32) (q : Nat → Nat) (x : Int32) (hpre : pre_X6_isWrong i a q x) : Met l yX6_isWrong (ws_ yX6_isWrong cX6_isWrong 2 (some .boolean)) rm_X6_isWrong (va_Pc [.ref (adr 0), .int x] (Pg g (MS g F adr i a q))) (vp_Si (fun r => post_X6_isWrong i a q x r)) 0 0 (fun _ => False) :=
  wk_X6_isWrong l g F adr i a q x _ (pr_X6_isWrong i a q x hpre)

abbrev rm_X6_writesInn : Room := ({ frames := 8, cells := 0, slots := 0, locals := 512 } : Room)
set_option maxHeartbeats 4000000 in
theorem wkb_X6_writesInn_48 (C : Cx p s m args meth c cX6_writesInn 2 RX6 none g) (post : MSt → Prop)  (x : Int32) (i : Nat → Int32) (a : Nat → Nat → Int32) (q : Nat → Nat) (s0 : List Int32) (sa_s0 : Nat) (hs_s0 : StrAt g sa_s0 s0) (hw : wpb_X6_writesInn_48 post  x i a q s0) {H : Heap} {locs : List Loc} (hM : MS g F adr i a q H) (hS : va_S (Ag g) s.heap H locs) {ls : Array Slot} (hl : lv_has ls 2 [(0, .ref (adr 0)), (1, .int x)]) : W p l e rm_X6_writesInn s m args below meth c H locs 0 0 (MQ below (va_Qv post (fun u t => MS g F adr u.1 u.2.1 u.2.2 t.heap) (Ag g)) args s 0 0 (Ag g)) (F0 m 48 ls [.ref sa_s0, .ref (adr 0)]) := by
  have hx := C.1
  have hb := C.2.1
  have hown := C.2.2.2.1
  have hr := C.2.2.2.2.2.1
  have hlocks := C.2.2.2.2.2.2.1
  refine va_callv (va_runV (As := [.ref sa_s0]) (rest := []) C.fix (met_X6_writes l g F adr i a q s0 sa_s0 hs_s0 hw.1) (cw_X6_303 C.ts ⟨Nat.le_of_ble_eq_true rfl, Nat.le_of_ble_eq_true rfl⟩) (preV_of C (P := (MS g F adr i a q)) (MS.recv C hM) hS hM _) rfl rfl hl.1 rfl (lv_room (Nat.le_of_ble_eq_true rfl)) dX6_writesInn_48 ⟨Nat.le_of_ble_eq_true rfl, Nat.le_of_ble_eq_true rfl⟩) hS (fun _ _ h => h) (fun _ h => h) (fun z_u t H locs ht _ hw1 hB _ _ hS => ?_)
  obtain ⟨i18, a19, q20⟩ := z_u
  have hM : MS g F adr i18 a19 q20 H := by rw [← ht]; exact hB
  have hw := hw.2 i18 a19 q20 hw1
  refine lv_aload_n hx hb dX6_writesInn_51 rfl (lv_at hl 0 rfl) ?_
  refine m_get C hM 1 (by decide) q2339 rfl rfl dX6_writesInn_52 ?_
  refine lv_bipush (v := 39) hx hb dX6_writesInn_55 (by decide) ?_
  refine lv_iload_n hx hb dX6_writesInn_57 rfl (lv_at hl 1 rfl) ?_
  refine lv_iadd hx hb dX6_writesInn_58 ?_
  refine m_ald C hM (j := 1) rfl hw.1 dX6_writesInn_59 ?_
  have hw := hw.2
  refine lv_if_le (tgt := 83) hx hb dX6_writesInn_60 (by decide) (fun c21 => ?_) (fun c21 => ?_)
  · have hw := hw.1 c21
    exact W.vret hx hb hr (fun t ht _ => ⟨⟨(i18, a19, q20), rfl, hw, hM.at ht⟩, hS.F ht⟩) hS.2.2 dX6_writesInn_83
  · have hw := hw.2 c21
    refine lv_aload_n hx hb dX6_writesInn_63 rfl (lv_at hl 0 rfl) ?_
    obtain ⟨sa22, hvsa22, hsa22⟩ := stX6_316 C
    refine va_ldcSw hx hb hown hvsa22 dX6_writesInn_64 ?_
    refine va_callv (va_runV (As := [.ref sa22]) (rest := []) C.fix (met_X6_writes l g F adr i18 a19 q20 tx__20_letters sa22 hsa22 hw.1) (cw_X6_303 C.ts ⟨Nat.le_of_ble_eq_true rfl, Nat.le_of_ble_eq_true rfl⟩) (preV_of C (P := (MS g F adr i18 a19 q20)) (MS.recv C hM) hS hM _) rfl rfl hl.1 rfl (lv_room (Nat.le_of_ble_eq_true rfl)) dX6_writesInn_67 ⟨Nat.le_of_ble_eq_true rfl, Nat.le_of_ble_eq_true rfl⟩) hS (fun _ _ h => h) (fun _ h => h) (fun z_u t H locs ht _ hw1 hB _ _ hS => ?_)
    obtain ⟨i24, a25, q26⟩ := z_u
    have hM : MS g F adr i24 a25 q26 H := by rw [← ht]; exact hB
    have hw := hw.2 i24 a25 q26 hw1
    refine lv_aload_n hx hb dX6_writesInn_70 rfl (lv_at hl 0 rfl) ?_
    refine lv_aload_n hx hb dX6_writesInn_71 rfl (lv_at hl 0 rfl) ?_
    refine m_get C hM 1 (by decide) q2339 rfl rfl dX6_writesInn_72 ?_
    refine lv_bipush (v := 39) hx hb dX6_writesInn_75 (by decide) ?_
    refine lv_iload_n hx hb dX6_writesInn_77 rfl (lv_at hl 1 rfl) ?_
    refine lv_iadd hx hb dX6_writesInn_78 ?_
    refine m_ald C hM (j := 1) rfl hw.1 dX6_writesInn_79 ?_
    have hw := hw.2
    refine va_callv (va_runV (As := [.int (a25 1 (39 + x).toNatClampNeg)]) (rest := []) C.fix (met_X6_writesNumber l g F adr i24 a25 q26 (a25 1 (39 + x).toNatClampNeg) hw.1) (cw_X6_307 C.ts ⟨Nat.le_of_ble_eq_true rfl, Nat.le_of_ble_eq_true rfl⟩) (preV_of C (P := (MS g F adr i24 a25 q26)) (MS.recv C hM) hS hM _) rfl rfl hl.1 rfl (lv_room (Nat.le_of_ble_eq_true rfl)) dX6_writesInn_80 ⟨Nat.le_of_ble_eq_true rfl, Nat.le_of_ble_eq_true rfl⟩) hS (fun _ _ h => h) (fun _ h => h) (fun z_u t H locs ht _ hw1 hB _ _ hS => ?_)
    obtain ⟨i28, a29, q30⟩ := z_u
    have hM : MS g F adr i28 a29 q30 H := by rw [← ht]; exact hB
    have hw := hw.2 i28 a29 q30 hw1
    exact W.vret hx hb hr (fun t ht _ => ⟨⟨(i28, a29, q30), rfl, hw, hM.at ht⟩, hS.F ht⟩) hS.2.2 dX6_writesInn_83
set_option maxHeartbeats 4000000 in
theorem wk_X6_writesInn (l : Launch) (g : gG) (F : nM) (adr : Nat → Nat) (i : Nat → Int32) (a : Nat → Nat → Int32) (q : Nat → Nat) (x : Int32) (post : MSt → Prop) (hw : wp_X6_writesInn post i a q x) : Met l yX6_writesInn (ws_ yX6_writesInn cX6_writesInn 2 none) rm_X6_writesInn (va_Pc [.ref (adr 0), .int x] (Pg g (MS g F adr i a q))) (va_Qv post (fun u t => MS g F adr u.1 u.2.1 u.2.2 t.heap) (Ag g)) 0 0 (Ag g) := by
  refine Met.ofW (cc := cX6_writesInn) (maxL := 2) (ret := none) (by decide) rfl ?_
  intro p e s m args below meth c s₁ B hml hv
  obtain ⟨rfl, hG, hM⟩ := hv
  have C : Cx p s m _ meth c cX6_writesInn 2 RX6 none g := Cx.of B hml hG
  have hx := C.1
  have hb := C.2.1
  have hown := C.2.2.2.1
  have hr := C.2.2.2.2.2.1
  have hlocks := C.2.2.2.2.2.2.1
  have hS : va_S (Ag g) s.heap s.heap [] := va_S.rf
  refine lv_start ([.ref (adr 0), .int x] : List Value) (L := [(0, .ref (adr 0)), (1, .int x)]) (Nat.le_of_ble_eq_true rfl) rfl (fun ls hl => ?_)
  refine lv_aload_n hx hb dX6_writesInn_0 rfl (lv_at hl 0 rfl) ?_
  obtain ⟨sa1, hvsa1, hsa1⟩ := stX6_310 C
  refine va_ldcSw hx hb hown hvsa1 dX6_writesInn_1 ?_
  refine va_callv (va_runV (As := [.ref sa1]) (rest := []) C.fix (met_X6_writes l g F adr i a q tx__3b_inn sa1 hsa1 hw.1) (cw_X6_303 C.ts ⟨Nat.le_of_ble_eq_true rfl, Nat.le_of_ble_eq_true rfl⟩) (preV_of C (P := (MS g F adr i a q)) (MS.recv C hM) hS hM _) rfl rfl hl.1 rfl (lv_room (Nat.le_of_ble_eq_true rfl)) dX6_writesInn_4 ⟨Nat.le_of_ble_eq_true rfl, Nat.le_of_ble_eq_true rfl⟩) hS (fun _ _ h => h) (fun _ h => h) (fun z_u t H locs ht _ hw1 hB _ _ hS => ?_)
  obtain ⟨i3, a4, q5⟩ := z_u
  have hM : MS g F adr i3 a4 q5 H := by rw [← ht]; exact hB
  have hw := hw.2 i3 a4 q5 hw1
  refine lv_aload_n hx hb dX6_writesInn_7 rfl (lv_at hl 0 rfl) ?_
  refine lv_iload_n hx hb dX6_writesInn_8 rfl (lv_at hl 1 rfl) ?_
  refine va_callv (va_runV (As := [.int x]) (rest := []) C.fix (met_X6_writesNumber l g F adr i3 a4 q5 x hw.1) (cw_X6_307 C.ts ⟨Nat.le_of_ble_eq_true rfl, Nat.le_of_ble_eq_true rfl⟩) (preV_of C (P := (MS g F adr i3 a4 q5)) (MS.recv C hM) hS hM _) rfl rfl hl.1 rfl (lv_room (Nat.le_of_ble_eq_true rfl)) dX6_writesInn_9 ⟨Nat.le_of_ble_eq_true rfl, Nat.le_of_ble_eq_true rfl⟩) hS (fun _ _ h => h) (fun _ h => h) (fun z_u t H locs ht _ hw1 hB _ _ hS => ?_)
  obtain ⟨i7, a8, q9⟩ := z_u
  have hM : MS g F adr i7 a8 q9 H := by rw [← ht]; exact hB
  have hw := hw.2 i7 a8 q9 hw1
  refine lv_aload_n hx hb dX6_writesInn_12 rfl (lv_at hl 0 rfl) ?_
  refine lv_aload_n hx hb dX6_writesInn_13 rfl (lv_at hl 0 rfl) ?_
  refine m_get C hM 1 (by decide) q2339 rfl rfl dX6_writesInn_14 ?_
  refine lv_bipush (v := 15) hx hb dX6_writesInn_17 (by decide) ?_
  refine lv_iload_n hx hb dX6_writesInn_19 rfl (lv_at hl 1 rfl) ?_
  refine lv_iadd hx hb dX6_writesInn_20 ?_
  refine m_ald C hM (j := 1) rfl hw.1 dX6_writesInn_21 ?_
  have hw := hw.2
  refine va_callv (va_runV (As := [.int (a8 1 (15 + x).toNatClampNeg)]) (rest := []) C.fix (met_X6_writesNumber l g F adr i7 a8 q9 (a8 1 (15 + x).toNatClampNeg) hw.1) (cw_X6_307 C.ts ⟨Nat.le_of_ble_eq_true rfl, Nat.le_of_ble_eq_true rfl⟩) (preV_of C (P := (MS g F adr i7 a8 q9)) (MS.recv C hM) hS hM _) rfl rfl hl.1 rfl (lv_room (Nat.le_of_ble_eq_true rfl)) dX6_writesInn_22 ⟨Nat.le_of_ble_eq_true rfl, Nat.le_of_ble_eq_true rfl⟩) hS (fun _ _ h => h) (fun _ h => h) (fun z_u t H locs ht _ hw1 hB _ _ hS => ?_)
  obtain ⟨i11, a12, q13⟩ := z_u
  have hM : MS g F adr i11 a12 q13 H := by rw [← ht]; exact hB
  have hw := hw.2 i11 a12 q13 hw1
  refine lv_aload_n hx hb dX6_writesInn_25 rfl (lv_at hl 0 rfl) ?_
  refine lv_aload_n hx hb dX6_writesInn_26 rfl (lv_at hl 0 rfl) ?_
  refine m_get C hM 1 (by decide) q2339 rfl rfl dX6_writesInn_27 ?_
  refine lv_bipush (v := 27) hx hb dX6_writesInn_30 (by decide) ?_
  refine lv_iload_n hx hb dX6_writesInn_32 rfl (lv_at hl 1 rfl) ?_
  refine lv_iadd hx hb dX6_writesInn_33 ?_
  refine m_ald C hM (j := 1) rfl hw.1 dX6_writesInn_34 ?_
  have hw := hw.2
  refine lv_iconst (v := 1) hx hb dX6_writesInn_35 (by decide) ?_
  refine lv_icmp_ne (tgt := 45) hx hb dX6_writesInn_36 (by decide) (fun c14 => ?_) (fun c14 => ?_)
  · have hw := hw.1 c14
    obtain ⟨sa15, hvsa15, hsa15⟩ := stX6_314 C
    refine va_ldcSw hx hb hown hvsa15 dX6_writesInn_45 ?_
    exact wkb_X6_writesInn_48 C post x  i11 a12 q13 tx__20_closed sa15 hsa15 hw hM hS (lv_sub hl [0, 1] rfl)
  · have hw := hw.2 c14
    obtain ⟨sa16, hvsa16, hsa16⟩ := stX6_312 C
    refine va_ldcSw hx hb hown hvsa16 dX6_writesInn_39 ?_
    refine lv_goto (tgt := 48) hx hb dX6_writesInn_42 (by decide) ?_
    exact wkb_X6_writesInn_48 C post x  i11 a12 q13 tx_ sa16 hsa16 hw hM hS (lv_sub hl [0, 1] rfl)
set_option maxHeartbeats 4000000 in
theorem met_X6_writesInn (l : Launch) (g : gG) (F : nM) (adr : Nat → Nat) (i : Nat → Int32) (a : Nat → Nat → Int32) (q : Nat → Nat) (x : Int32) (hpre : pre_X6_writesInn i a q x) : Met l yX6_writesInn (ws_ yX6_writesInn cX6_writesInn 2 none) rm_X6_writesInn (va_Pc [.ref (adr 0), .int x] (Pg g (MS g F adr i a q))) (va_Qv (fun u => post_X6_writesInn i a q x u) (fun u t => MS g F adr u.1 u.2.1 u.2.2 t.heap) (Ag g)) 0 0 (Ag g) :=
  wk_X6_writesInn l g F adr i a q x _ (pr_X6_writesInn i a q x hpre)

abbrev rm_X6_writesRow : Room := ({ frames := 9, cells := 0, slots := 0, locals := 576 } : Room)
set_option maxHeartbeats 4000000 in
theorem wkb_X6_writesRow_40 (C : Cx p s m args meth c cX6_writesRow 4 RX6 none g) (post : MSt → Prop)  (w : List Int32) (sa_w : Nat) (hs_w : StrAt g sa_w w) (x : Int32)(K2 : (Nat → Int32) → (Nat → Nat → Int32) → (Nat → Nat) → Int32 → Prop) (hK2 : ∀ (i : Nat → Int32) (a : Nat → Nat → Int32) (q : Nat → Nat) (y3 : Int32), K2 i a q y3 → ∀ (H : Heap) (locs : List Loc), MS g F adr i a q H → va_S (Ag g) s.heap H locs → ∀ ls : Array Slot, lv_has ls 4 [(0, .ref (adr 0)), (1, .ref sa_w), (2, .int x), (3, .int y3)] → W p l e rm_X6_writesRow s m args below meth c H locs 0 0 (MQ below (va_Qv post (fun u t => MS g F adr u.1 u.2.1 u.2.2 t.heap) (Ag g)) args s 0 0 (Ag g)) (F0 m 2 ls [])) (i : Nat → Int32) (a : Nat → Nat → Int32) (q : Nat → Nat) (x3 : Int32) (hw : wpb_X6_writesRow_40 post K2 w x i a q x3) {H : Heap} {locs : List Loc} (hM : MS g F adr i a q H) (hS : va_S (Ag g) s.heap H locs) {ls : Array Slot} (hl : lv_has ls 4 [(0, .ref (adr 0)), (1, .ref sa_w), (2, .int x), (3, .int x3)]) : W p l e rm_X6_writesRow s m args below meth c H locs 0 0 (MQ below (va_Qv post (fun u t => MS g F adr u.1 u.2.1 u.2.2 t.heap) (Ag g)) args s 0 0 (Ag g)) (F0 m 40 ls []) := by
  have hx := C.1
  have hb := C.2.1
  have hown := C.2.2.2.1
  have hr := C.2.2.2.2.2.1
  have hlocks := C.2.2.2.2.2.2.1
  obtain ⟨z16, ez16⟩ : ∃ y : Int32, y = x3 + 1 := ⟨_, rfl⟩
  have hw := hw z16 ez16
  refine lv_iinc (v := z16) (lv' := [(3, .int z16), (0, .ref (adr 0)), (1, .ref sa_w), (2, .int x)]) hx hb dX6_writesRow_40 hl (k := 3) rfl (by rw [ez16]; rfl) (by decide) rfl (fun ls hl => ?_)
  refine lv_goto (tgt := 2) hx hb dX6_writesRow_43 (by decide) ?_
  exact hK2 i a q z16 hw _ _ hM hS _ (lv_sub hl [1, 2, 3, 0] rfl)
set_option maxHeartbeats 4000000 in
theorem wkb_X6_writesRow_2 (C : Cx p s m args meth c cX6_writesRow 4 RX6 none g) (post : MSt → Prop)  (w : List Int32) (sa_w : Nat) (hs_w : StrAt g sa_w w) (x : Int32) : ∀ (n : Nat) (i : Nat → Int32) (a : Nat → Nat → Int32) (q : Nat → Nat) (x3 : Int32), wpb_X6_writesRow_2 post  w x n i a q x3 → ∀ (H : Heap) (locs : List Loc), MS g F adr i a q H → va_S (Ag g) s.heap H locs → ∀ ls : Array Slot, lv_has ls 4 [(0, .ref (adr 0)), (1, .ref sa_w), (2, .int x), (3, .int x3)] → W p l e rm_X6_writesRow s m args below meth c H locs 0 0 (MQ below (va_Qv post (fun u t => MS g F adr u.1 u.2.1 u.2.2 t.heap) (Ag g)) args s 0 0 (Ag g)) (F0 m 2 ls []) := by
  have hx := C.1
  have hb := C.2.1
  have hown := C.2.2.2.1
  have hr := C.2.2.2.2.2.1
  have hlocks := C.2.2.2.2.2.2.1
  intro n
  induction n with
  | zero =>
    intro i a q x3 hw
    exact hw.elim
  | succ n ih =>
    intro i a q x3 hw H locs hM hS ls hl
    refine lv_iload_n hx hb dX6_writesRow_2 rfl (lv_at hl 3 rfl) ?_
    refine lv_bipush (v := 12) hx hb dX6_writesRow_3 (by decide) ?_
    refine lv_icmp_ge (tgt := 46) hx hb dX6_writesRow_5 (by decide) (fun c1 => ?_) (fun c1 => ?_)
    · have hw := hw.1 c1
      exact W.vret hx hb hr (fun t ht _ => ⟨⟨(i, a, q), rfl, hw, hM.at ht⟩, hS.F ht⟩) hS.2.2 dX6_writesRow_46
    · have hw := hw.2 c1
      refine lv_aload_n hx hb dX6_writesRow_8 rfl (lv_at hl 0 rfl) ?_
      refine lv_iload_n hx hb dX6_writesRow_9 rfl (lv_at hl 2 rfl) ?_
      refine lv_iload_n hx hb dX6_writesRow_10 rfl (lv_at hl 3 rfl) ?_
      refine lv_iadd hx hb dX6_writesRow_11 ?_
      refine vp_callSi (va_runV (As := [.int (x + x3)]) (rest := []) C.fix (met_X6_isWrong l g F adr i a q (x + x3) hw.1) (cw_X6_318 C.ts ⟨Nat.le_of_ble_eq_true rfl, Nat.le_of_ble_eq_true rfl⟩) (preV_of C (P := (MS g F adr i a q)) (MS.recv C hM) hS hM _) rfl rfl hl.1 rfl (lv_room (Nat.le_of_ble_eq_true rfl)) dX6_writesRow_12 ⟨Nat.le_of_ble_eq_true rfl, Nat.le_of_ble_eq_true rfl⟩).run (fun r2 er2 => ?_)
      have hw := hw.2 r2 er2
      refine lv_if_eq (tgt := 40) hx hb dX6_writesRow_15 (by decide) (fun c3 => ?_) (fun c3 => ?_)
      · have hw := hw.1 c3
        exact wkb_X6_writesRow_40 C post w sa_w hs_w x (wpb_X6_writesRow_2 post  w x n) ih i a q x3 hw hM hS (lv_sub hl [0, 1, 2, 3] rfl)
      · have hw := hw.2 c3
        refine lv_aload_n hx hb dX6_writesRow_18 rfl (lv_at hl 0 rfl) ?_
        refine lv_aload_n hx hb dX6_writesRow_19 rfl (lv_at hl 1 rfl) ?_
        refine va_callv (va_runV (As := [.ref sa_w]) (rest := []) C.fix (met_X6_writes l g F adr i a q w sa_w hs_w hw.1) (cw_X6_303 C.ts ⟨Nat.le_of_ble_eq_true rfl, Nat.le_of_ble_eq_true rfl⟩) (preV_of C (P := (MS g F adr i a q)) (MS.recv C hM) hS hM _) rfl rfl hl.1 rfl (lv_room (Nat.le_of_ble_eq_true rfl)) dX6_writesRow_20 ⟨Nat.le_of_ble_eq_true rfl, Nat.le_of_ble_eq_true rfl⟩) hS (fun _ _ h => h) (fun _ h => h) (fun z_u t H locs ht _ hw1 hB _ _ hS => ?_)
        obtain ⟨i5, a6, q7⟩ := z_u
        have hM : MS g F adr i5 a6 q7 H := by rw [← ht]; exact hB
        have hw := hw.2 i5 a6 q7 hw1
        refine lv_aload_n hx hb dX6_writesRow_23 rfl (lv_at hl 0 rfl) ?_
        refine lv_iload_n hx hb dX6_writesRow_24 rfl (lv_at hl 3 rfl) ?_
        refine va_callv (va_runV (As := [.int x3]) (rest := []) C.fix (met_X6_writesNumber l g F adr i5 a6 q7 x3 hw.1) (cw_X6_307 C.ts ⟨Nat.le_of_ble_eq_true rfl, Nat.le_of_ble_eq_true rfl⟩) (preV_of C (P := (MS g F adr i5 a6 q7)) (MS.recv C hM) hS hM _) rfl rfl hl.1 rfl (lv_room (Nat.le_of_ble_eq_true rfl)) dX6_writesRow_25 ⟨Nat.le_of_ble_eq_true rfl, Nat.le_of_ble_eq_true rfl⟩) hS (fun _ _ h => h) (fun _ h => h) (fun z_u t H locs ht _ hw1 hB _ _ hS => ?_)
        obtain ⟨i9, a10, q11⟩ := z_u
        have hM : MS g F adr i9 a10 q11 H := by rw [← ht]; exact hB
        have hw := hw.2 i9 a10 q11 hw1
        refine lv_aload_n hx hb dX6_writesRow_28 rfl (lv_at hl 0 rfl) ?_
        refine lv_aload_n hx hb dX6_writesRow_29 rfl (lv_at hl 0 rfl) ?_
        refine m_get C hM 1 (by decide) q2339 rfl rfl dX6_writesRow_30 ?_
        refine lv_iload_n hx hb dX6_writesRow_33 rfl (lv_at hl 2 rfl) ?_
        refine lv_iload_n hx hb dX6_writesRow_34 rfl (lv_at hl 3 rfl) ?_
        refine lv_iadd hx hb dX6_writesRow_35 ?_
        refine m_ald C hM (j := 1) rfl hw.1 dX6_writesRow_36 ?_
        have hw := hw.2
        refine va_callv (va_runV (As := [.int (a10 1 (x + x3).toNatClampNeg)]) (rest := []) C.fix (met_X6_writesPointer l g F adr i9 a10 q11 (a10 1 (x + x3).toNatClampNeg) hw.1) (cw_X6_321 C.ts ⟨Nat.le_of_ble_eq_true rfl, Nat.le_of_ble_eq_true rfl⟩) (preV_of C (P := (MS g F adr i9 a10 q11)) (MS.recv C hM) hS hM _) rfl rfl hl.1 rfl (lv_room (Nat.le_of_ble_eq_true rfl)) dX6_writesRow_37 ⟨Nat.le_of_ble_eq_true rfl, Nat.le_of_ble_eq_true rfl⟩) hS (fun _ _ h => h) (fun _ h => h) (fun z_u t H locs ht _ hw1 hB _ _ hS => ?_)
        obtain ⟨i13, a14, q15⟩ := z_u
        have hM : MS g F adr i13 a14 q15 H := by rw [← ht]; exact hB
        have hw := hw.2 i13 a14 q15 hw1
        exact wkb_X6_writesRow_40 C post w sa_w hs_w x (wpb_X6_writesRow_2 post  w x n) ih i13 a14 q15 x3 hw hM hS (lv_sub hl [0, 1, 2, 3] rfl)
set_option maxHeartbeats 4000000 in
theorem wk_X6_writesRow (l : Launch) (g : gG) (F : nM) (adr : Nat → Nat) (i : Nat → Int32) (a : Nat → Nat → Int32) (q : Nat → Nat) (w : List Int32) (sa_w : Nat) (hs_w : StrAt g sa_w w) (x : Int32) (post : MSt → Prop) (hw : wp_X6_writesRow post i a q w x) : Met l yX6_writesRow (ws_ yX6_writesRow cX6_writesRow 4 none) rm_X6_writesRow (va_Pc [.ref (adr 0), .ref sa_w, .int x] (Pg g (MS g F adr i a q))) (va_Qv post (fun u t => MS g F adr u.1 u.2.1 u.2.2 t.heap) (Ag g)) 0 0 (Ag g) := by
  refine Met.ofW (cc := cX6_writesRow) (maxL := 4) (ret := none) (by decide) rfl ?_
  intro p e s m args below meth c s₁ B hml hv
  obtain ⟨rfl, hG, hM⟩ := hv
  have C : Cx p s m _ meth c cX6_writesRow 4 RX6 none g := Cx.of B hml hG
  have hx := C.1
  have hb := C.2.1
  have hown := C.2.2.2.1
  have hr := C.2.2.2.2.2.1
  have hlocks := C.2.2.2.2.2.2.1
  have hS : va_S (Ag g) s.heap s.heap [] := va_S.rf
  refine lv_start ([.ref (adr 0), .ref sa_w, .int x] : List Value) (L := [(0, .ref (adr 0)), (1, .ref sa_w), (2, .int x)]) (Nat.le_of_ble_eq_true rfl) rfl (fun ls hl => ?_)
  refine lv_iconst (v := 0) hx hb dX6_writesRow_0 (by decide) ?_
  refine lv_istore_n (lv' := [(3, .int 0), (0, .ref (adr 0)), (1, .ref sa_w), (2, .int x)]) hx hb dX6_writesRow_1 rfl hl (by decide) rfl (fun ls hl => ?_)
  obtain ⟨n, hw⟩ := hw
  exact wkb_X6_writesRow_2 C post w sa_w hs_w x  n i a q 0 hw _ _ hM hS _ (lv_sub hl [1, 2, 3, 0] rfl)
set_option maxHeartbeats 4000000 in
theorem met_X6_writesRow (l : Launch) (g : gG) (F : nM) (adr : Nat → Nat) (i : Nat → Int32) (a : Nat → Nat → Int32) (q : Nat → Nat) (w : List Int32) (sa_w : Nat) (hs_w : StrAt g sa_w w) (x : Int32) (hpre : pre_X6_writesRow i a q w x) : Met l yX6_writesRow (ws_ yX6_writesRow cX6_writesRow 4 none) rm_X6_writesRow (va_Pc [.ref (adr 0), .ref sa_w, .int x] (Pg g (MS g F adr i a q))) (va_Qv (fun u => post_X6_writesRow i a q w x u) (fun u t => MS g F adr u.1 u.2.1 u.2.2 t.heap) (Ag g)) 0 0 (Ag g) :=
  wk_X6_writesRow l g F adr i a q w sa_w hs_w x _ (pr_X6_writesRow i a q w x hpre)

abbrev rm_X6_write : Room := ({ frames := 10, cells := 0, slots := 0, locals := 640 } : Room)
set_option maxHeartbeats 4000000 in
theorem wkb_X6_write_142 (C : Cx p s m args meth c cX6_write 2 RX6 (some .int) g) (post : Int32 → MSt → Prop)   (i : Nat → Int32) (a : Nat → Nat → Int32) (q : Nat → Nat)  (hw : wpb_X6_write_142 post   i a q ) {H : Heap} {locs : List Loc} (hM : MS g F adr i a q H) (hS : va_S (Ag g) s.heap H locs) {ls : Array Slot} (hl : lv_has ls 2 [(0, .ref (adr 0))]) : W p l e rm_X6_write s m args below meth c H locs 0 0 (MQ below (va_Qi post (fun u t => MS g F adr u.1 u.2.1 u.2.2 t.heap) (Ag g)) args s 0 0 (Ag g)) (F0 m 142 ls []) := by
  have hx := C.1
  have hb := C.2.1
  have hown := C.2.2.2.1
  have hr := C.2.2.2.2.2.1
  have hlocks := C.2.2.2.2.2.2.1
  refine lv_aload_n hx hb dX6_write_142 rfl (lv_at hl 0 rfl) ?_
  obtain ⟨sa55, hvsa55, hsa55⟩ := stX6_333 C
  refine va_ldcSw hx hb hown hvsa55 dX6_write_143 ?_
  refine lv_bipush (v := 54) hx hb dX6_write_146 (by decide) ?_
  refine va_callv (va_runV (As := [.ref sa55, .int 54]) (rest := []) C.fix (met_X6_writesRow l g F adr i a q tx__3b_next sa55 hsa55 54 hw.1) (cw_X6_335 C.ts ⟨Nat.le_of_ble_eq_true rfl, Nat.le_of_ble_eq_true rfl⟩) (preV_of C (P := (MS g F adr i a q)) (MS.recv C hM) hS hM _) rfl rfl hl.1 rfl (lv_room (Nat.le_of_ble_eq_true rfl)) dX6_write_148 ⟨Nat.le_of_ble_eq_true rfl, Nat.le_of_ble_eq_true rfl⟩) hS (fun _ _ h => h) (fun _ h => h) (fun z_u t H locs ht _ hw1 hB _ _ hS => ?_)
  obtain ⟨i57, a58, q59⟩ := z_u
  have hM : MS g F adr i57 a58 q59 H := by rw [← ht]; exact hB
  have hw := hw.2 i57 a58 q59 hw1
  refine lv_aload_n hx hb dX6_write_151 rfl (lv_at hl 0 rfl) ?_
  obtain ⟨sa60, hvsa60, hsa60⟩ := stX6_339 C
  refine va_ldcSw hx hb hown hvsa60 dX6_write_152 ?_
  refine lv_bipush (v := 66) hx hb dX6_write_155 (by decide) ?_
  refine va_callv (va_runV (As := [.ref sa60, .int 66]) (rest := []) C.fix (met_X6_writesRow l g F adr i57 a58 q59 tx__3b_skip sa60 hsa60 66 hw.1) (cw_X6_335 C.ts ⟨Nat.le_of_ble_eq_true rfl, Nat.le_of_ble_eq_true rfl⟩) (preV_of C (P := (MS g F adr i57 a58 q59)) (MS.recv C hM) hS hM _) rfl rfl hl.1 rfl (lv_room (Nat.le_of_ble_eq_true rfl)) dX6_write_157 ⟨Nat.le_of_ble_eq_true rfl, Nat.le_of_ble_eq_true rfl⟩) hS (fun _ _ h => h) (fun _ h => h) (fun z_u t H locs ht _ hw1 hB _ _ hS => ?_)
  obtain ⟨i62, a63, q64⟩ := z_u
  have hM : MS g F adr i62 a63 q64 H := by rw [← ht]; exact hB
  have hw := hw.2 i62 a63 q64 hw1
  refine lv_aload_n hx hb dX6_write_160 rfl (lv_at hl 0 rfl) ?_
  refine m_get C hM 19 (by decide) q2357 rfl rfl dX6_write_161 ?_
  exact W.iret (v := (i62 19)) hx hb hr (fun t ht _ => ⟨⟨(i62 19), (i62, a63, q64), rfl, hw, hM.at ht⟩, hS.F ht⟩) hS.2.2 dX6_write_164
set_option maxHeartbeats 4000000 in
theorem wkb_X6_write_115 (C : Cx p s m args meth c cX6_write 2 RX6 (some .int) g) (post : Int32 → MSt → Prop)   (i : Nat → Int32) (a : Nat → Nat → Int32) (q : Nat → Nat)  (hw : wpb_X6_write_115 post   i a q ) {H : Heap} {locs : List Loc} (hM : MS g F adr i a q H) (hS : va_S (Ag g) s.heap H locs) {ls : Array Slot} (hl : lv_has ls 2 [(0, .ref (adr 0))]) : W p l e rm_X6_write s m args below meth c H locs 0 0 (MQ below (va_Qi post (fun u t => MS g F adr u.1 u.2.1 u.2.2 t.heap) (Ag g)) args s 0 0 (Ag g)) (F0 m 115 ls []) := by
  have hx := C.1
  have hb := C.2.1
  have hown := C.2.2.2.1
  have hr := C.2.2.2.2.2.1
  have hlocks := C.2.2.2.2.2.2.1
  refine lv_aload_n hx hb dX6_write_115 rfl (lv_at hl 0 rfl) ?_
  refine lv_bipush (v := 53) hx hb dX6_write_116 (by decide) ?_
  refine vp_callSi (va_runV (As := [.int 53]) (rest := []) C.fix (met_X6_isWrong l g F adr i a q 53 hw.1) (cw_X6_318 C.ts ⟨Nat.le_of_ble_eq_true rfl, Nat.le_of_ble_eq_true rfl⟩) (preV_of C (P := (MS g F adr i a q)) (MS.recv C hM) hS hM _) rfl rfl hl.1 rfl (lv_room (Nat.le_of_ble_eq_true rfl)) dX6_write_118 ⟨Nat.le_of_ble_eq_true rfl, Nat.le_of_ble_eq_true rfl⟩).run (fun r44 er44 => ?_)
  have hw := hw.2 r44 er44
  refine lv_if_eq (tgt := 142) hx hb dX6_write_121 (by decide) (fun c45 => ?_) (fun c45 => ?_)
  · have hw := hw.1 c45
    exact wkb_X6_write_142 C post   i a q hw hM hS (lv_sub hl [0] rfl)
  · have hw := hw.2 c45
    refine lv_aload_n hx hb dX6_write_124 rfl (lv_at hl 0 rfl) ?_
    obtain ⟨sa46, hvsa46, hsa46⟩ := stX6_331 C
    refine va_ldcSw hx hb hown hvsa46 dX6_write_125 ?_
    refine va_callv (va_runV (As := [.ref sa46]) (rest := []) C.fix (met_X6_writes l g F adr i a q tx__3b_count sa46 hsa46 hw.1) (cw_X6_303 C.ts ⟨Nat.le_of_ble_eq_true rfl, Nat.le_of_ble_eq_true rfl⟩) (preV_of C (P := (MS g F adr i a q)) (MS.recv C hM) hS hM _) rfl rfl hl.1 rfl (lv_room (Nat.le_of_ble_eq_true rfl)) dX6_write_128 ⟨Nat.le_of_ble_eq_true rfl, Nat.le_of_ble_eq_true rfl⟩) hS (fun _ _ h => h) (fun _ h => h) (fun z_u t H locs ht _ hw1 hB _ _ hS => ?_)
    obtain ⟨i48, a49, q50⟩ := z_u
    have hM : MS g F adr i48 a49 q50 H := by rw [← ht]; exact hB
    have hw := hw.2 i48 a49 q50 hw1
    refine lv_aload_n hx hb dX6_write_131 rfl (lv_at hl 0 rfl) ?_
    refine lv_aload_n hx hb dX6_write_132 rfl (lv_at hl 0 rfl) ?_
    refine m_get C hM 1 (by decide) q2339 rfl rfl dX6_write_133 ?_
    refine lv_bipush (v := 53) hx hb dX6_write_136 (by decide) ?_
    refine m_ald C hM (j := 1) rfl hw.1 dX6_write_138 ?_
    have hw := hw.2
    refine va_callv (va_runV (As := [.int (a49 1 (53 : Int32).toNatClampNeg)]) (rest := []) C.fix (met_X6_writesNumber l g F adr i48 a49 q50 (a49 1 (53 : Int32).toNatClampNeg) hw.1) (cw_X6_307 C.ts ⟨Nat.le_of_ble_eq_true rfl, Nat.le_of_ble_eq_true rfl⟩) (preV_of C (P := (MS g F adr i48 a49 q50)) (MS.recv C hM) hS hM _) rfl rfl hl.1 rfl (lv_room (Nat.le_of_ble_eq_true rfl)) dX6_write_139 ⟨Nat.le_of_ble_eq_true rfl, Nat.le_of_ble_eq_true rfl⟩) hS (fun _ _ h => h) (fun _ h => h) (fun z_u t H locs ht _ hw1 hB _ _ hS => ?_)
    obtain ⟨i52, a53, q54⟩ := z_u
    have hM : MS g F adr i52 a53 q54 H := by rw [← ht]; exact hB
    have hw := hw.2 i52 a53 q54 hw1
    exact wkb_X6_write_142 C post   i52 a53 q54 hw hM hS (lv_sub hl [0] rfl)
set_option maxHeartbeats 4000000 in
theorem wkb_X6_write_88 (C : Cx p s m args meth c cX6_write 2 RX6 (some .int) g) (post : Int32 → MSt → Prop)   (i : Nat → Int32) (a : Nat → Nat → Int32) (q : Nat → Nat)  (hw : wpb_X6_write_88 post   i a q ) {H : Heap} {locs : List Loc} (hM : MS g F adr i a q H) (hS : va_S (Ag g) s.heap H locs) {ls : Array Slot} (hl : lv_has ls 2 [(0, .ref (adr 0))]) : W p l e rm_X6_write s m args below meth c H locs 0 0 (MQ below (va_Qi post (fun u t => MS g F adr u.1 u.2.1 u.2.2 t.heap) (Ag g)) args s 0 0 (Ag g)) (F0 m 88 ls []) := by
  have hx := C.1
  have hb := C.2.1
  have hown := C.2.2.2.1
  have hr := C.2.2.2.2.2.1
  have hlocks := C.2.2.2.2.2.2.1
  refine lv_aload_n hx hb dX6_write_88 rfl (lv_at hl 0 rfl) ?_
  refine lv_bipush (v := 52) hx hb dX6_write_89 (by decide) ?_
  refine vp_callSi (va_runV (As := [.int 52]) (rest := []) C.fix (met_X6_isWrong l g F adr i a q 52 hw.1) (cw_X6_318 C.ts ⟨Nat.le_of_ble_eq_true rfl, Nat.le_of_ble_eq_true rfl⟩) (preV_of C (P := (MS g F adr i a q)) (MS.recv C hM) hS hM _) rfl rfl hl.1 rfl (lv_room (Nat.le_of_ble_eq_true rfl)) dX6_write_91 ⟨Nat.le_of_ble_eq_true rfl, Nat.le_of_ble_eq_true rfl⟩).run (fun r33 er33 => ?_)
  have hw := hw.2 r33 er33
  refine lv_if_eq (tgt := 115) hx hb dX6_write_94 (by decide) (fun c34 => ?_) (fun c34 => ?_)
  · have hw := hw.1 c34
    exact wkb_X6_write_115 C post   i a q hw hM hS (lv_sub hl [0] rfl)
  · have hw := hw.2 c34
    refine lv_aload_n hx hb dX6_write_97 rfl (lv_at hl 0 rfl) ?_
    obtain ⟨sa35, hvsa35, hsa35⟩ := stX6_329 C
    refine va_ldcSw hx hb hown hvsa35 dX6_write_98 ?_
    refine va_callv (va_runV (As := [.ref sa35]) (rest := []) C.fix (met_X6_writes l g F adr i a q tx__3b_second sa35 hsa35 hw.1) (cw_X6_303 C.ts ⟨Nat.le_of_ble_eq_true rfl, Nat.le_of_ble_eq_true rfl⟩) (preV_of C (P := (MS g F adr i a q)) (MS.recv C hM) hS hM _) rfl rfl hl.1 rfl (lv_room (Nat.le_of_ble_eq_true rfl)) dX6_write_101 ⟨Nat.le_of_ble_eq_true rfl, Nat.le_of_ble_eq_true rfl⟩) hS (fun _ _ h => h) (fun _ h => h) (fun z_u t H locs ht _ hw1 hB _ _ hS => ?_)
    obtain ⟨i37, a38, q39⟩ := z_u
    have hM : MS g F adr i37 a38 q39 H := by rw [← ht]; exact hB
    have hw := hw.2 i37 a38 q39 hw1
    refine lv_aload_n hx hb dX6_write_104 rfl (lv_at hl 0 rfl) ?_
    refine lv_aload_n hx hb dX6_write_105 rfl (lv_at hl 0 rfl) ?_
    refine m_get C hM 1 (by decide) q2339 rfl rfl dX6_write_106 ?_
    refine lv_bipush (v := 52) hx hb dX6_write_109 (by decide) ?_
    refine m_ald C hM (j := 1) rfl hw.1 dX6_write_111 ?_
    have hw := hw.2
    refine va_callv (va_runV (As := [.int (a38 1 (52 : Int32).toNatClampNeg)]) (rest := []) C.fix (met_X6_writesPointer l g F adr i37 a38 q39 (a38 1 (52 : Int32).toNatClampNeg) hw.1) (cw_X6_321 C.ts ⟨Nat.le_of_ble_eq_true rfl, Nat.le_of_ble_eq_true rfl⟩) (preV_of C (P := (MS g F adr i37 a38 q39)) (MS.recv C hM) hS hM _) rfl rfl hl.1 rfl (lv_room (Nat.le_of_ble_eq_true rfl)) dX6_write_112 ⟨Nat.le_of_ble_eq_true rfl, Nat.le_of_ble_eq_true rfl⟩) hS (fun _ _ h => h) (fun _ h => h) (fun z_u t H locs ht _ hw1 hB _ _ hS => ?_)
    obtain ⟨i41, a42, q43⟩ := z_u
    have hM : MS g F adr i41 a42 q43 H := by rw [← ht]; exact hB
    have hw := hw.2 i41 a42 q43 hw1
    exact wkb_X6_write_115 C post   i41 a42 q43 hw hM hS (lv_sub hl [0] rfl)
set_option maxHeartbeats 4000000 in
theorem wkb_X6_write_55 (C : Cx p s m args meth c cX6_write 2 RX6 (some .int) g) (post : Int32 → MSt → Prop)  (K32 : (Nat → Int32) → (Nat → Nat → Int32) → (Nat → Nat) → Int32 → Prop) (hK32 : ∀ (i : Nat → Int32) (a : Nat → Nat → Int32) (q : Nat → Nat) (y1 : Int32), K32 i a q y1 → ∀ (H : Heap) (locs : List Loc), MS g F adr i a q H → va_S (Ag g) s.heap H locs → ∀ ls : Array Slot, lv_has ls 2 [(0, .ref (adr 0)), (1, .int y1)] → W p l e rm_X6_write s m args below meth c H locs 0 0 (MQ below (va_Qi post (fun u t => MS g F adr u.1 u.2.1 u.2.2 t.heap) (Ag g)) args s 0 0 (Ag g)) (F0 m 32 ls [])) (i : Nat → Int32) (a : Nat → Nat → Int32) (q : Nat → Nat) (x1 : Int32) (hw : wpb_X6_write_55 post K32  i a q x1) {H : Heap} {locs : List Loc} (hM : MS g F adr i a q H) (hS : va_S (Ag g) s.heap H locs) {ls : Array Slot} (hl : lv_has ls 2 [(0, .ref (adr 0)), (1, .int x1)]) : W p l e rm_X6_write s m args below meth c H locs 0 0 (MQ below (va_Qi post (fun u t => MS g F adr u.1 u.2.1 u.2.2 t.heap) (Ag g)) args s 0 0 (Ag g)) (F0 m 55 ls []) := by
  have hx := C.1
  have hb := C.2.1
  have hown := C.2.2.2.1
  have hr := C.2.2.2.2.2.1
  have hlocks := C.2.2.2.2.2.2.1
  obtain ⟨z65, ez65⟩ : ∃ y : Int32, y = x1 + 1 := ⟨_, rfl⟩
  have hw := hw z65 ez65
  refine lv_iinc (v := z65) (lv' := [(1, .int z65), (0, .ref (adr 0))]) hx hb dX6_write_55 hl (k := 1) rfl (by rw [ez65]; rfl) (by decide) rfl (fun ls hl => ?_)
  refine lv_goto (tgt := 32) hx hb dX6_write_58 (by decide) ?_
  exact hK32 i a q z65 hw _ _ hM hS _ (lv_sub hl [1, 0] rfl)
set_option maxHeartbeats 4000000 in
theorem wkb_X6_write_32 (C : Cx p s m args meth c cX6_write 2 RX6 (some .int) g) (post : Int32 → MSt → Prop)   : ∀ (n : Nat) (i : Nat → Int32) (a : Nat → Nat → Int32) (q : Nat → Nat) (x1 : Int32), wpb_X6_write_32 post   n i a q x1 → ∀ (H : Heap) (locs : List Loc), MS g F adr i a q H → va_S (Ag g) s.heap H locs → ∀ ls : Array Slot, lv_has ls 2 [(0, .ref (adr 0)), (1, .int x1)] → W p l e rm_X6_write s m args below meth c H locs 0 0 (MQ below (va_Qi post (fun u t => MS g F adr u.1 u.2.1 u.2.2 t.heap) (Ag g)) args s 0 0 (Ag g)) (F0 m 32 ls []) := by
  have hx := C.1
  have hb := C.2.1
  have hown := C.2.2.2.1
  have hr := C.2.2.2.2.2.1
  have hlocks := C.2.2.2.2.2.2.1
  intro n
  induction n with
  | zero =>
    intro i a q x1 hw
    exact hw.elim
  | succ n ih =>
    intro i a q x1 hw H locs hM hS ls hl
    refine lv_iload_n hx hb dX6_write_32 rfl (lv_at hl 1 rfl) ?_
    refine lv_bipush (v := 12) hx hb dX6_write_33 (by decide) ?_
    refine lv_icmp_ge (tgt := 61) hx hb dX6_write_35 (by decide) (fun c16 => ?_) (fun c16 => ?_)
    · have hw := hw.1 c16
      refine lv_aload_n hx hb dX6_write_61 rfl (lv_at hl 0 rfl) ?_
      refine lv_bipush (v := 51) hx hb dX6_write_62 (by decide) ?_
      refine vp_callSi (va_runV (As := [.int 51]) (rest := []) C.fix (met_X6_isWrong l g F adr i a q 51 hw.1) (cw_X6_318 C.ts ⟨Nat.le_of_ble_eq_true rfl, Nat.le_of_ble_eq_true rfl⟩) (preV_of C (P := (MS g F adr i a q)) (MS.recv C hM) hS hM _) rfl rfl hl.1 rfl (lv_room (Nat.le_of_ble_eq_true rfl)) dX6_write_64 ⟨Nat.le_of_ble_eq_true rfl, Nat.le_of_ble_eq_true rfl⟩).run (fun r17 er17 => ?_)
      have hw := hw.2 r17 er17
      refine lv_if_eq (tgt := 88) hx hb dX6_write_67 (by decide) (fun c18 => ?_) (fun c18 => ?_)
      · have hw := hw.1 c18
        exact wkb_X6_write_88 C post   i a q hw hM hS (lv_sub hl [0] rfl)
      · have hw := hw.2 c18
        refine lv_aload_n hx hb dX6_write_70 rfl (lv_at hl 0 rfl) ?_
        obtain ⟨sa19, hvsa19, hsa19⟩ := stX6_327 C
        refine va_ldcSw hx hb hown hvsa19 dX6_write_71 ?_
        refine va_callv (va_runV (As := [.ref sa19]) (rest := []) C.fix (met_X6_writes l g F adr i a q tx__3b_first sa19 hsa19 hw.1) (cw_X6_303 C.ts ⟨Nat.le_of_ble_eq_true rfl, Nat.le_of_ble_eq_true rfl⟩) (preV_of C (P := (MS g F adr i a q)) (MS.recv C hM) hS hM _) rfl rfl hl.1 rfl (lv_room (Nat.le_of_ble_eq_true rfl)) dX6_write_74 ⟨Nat.le_of_ble_eq_true rfl, Nat.le_of_ble_eq_true rfl⟩) hS (fun _ _ h => h) (fun _ h => h) (fun z_u t H locs ht _ hw1 hB _ _ hS => ?_)
        obtain ⟨i21, a22, q23⟩ := z_u
        have hM : MS g F adr i21 a22 q23 H := by rw [← ht]; exact hB
        have hw := hw.2 i21 a22 q23 hw1
        refine lv_aload_n hx hb dX6_write_77 rfl (lv_at hl 0 rfl) ?_
        refine lv_aload_n hx hb dX6_write_78 rfl (lv_at hl 0 rfl) ?_
        refine m_get C hM 1 (by decide) q2339 rfl rfl dX6_write_79 ?_
        refine lv_bipush (v := 51) hx hb dX6_write_82 (by decide) ?_
        refine m_ald C hM (j := 1) rfl hw.1 dX6_write_84 ?_
        have hw := hw.2
        refine va_callv (va_runV (As := [.int (a22 1 (51 : Int32).toNatClampNeg)]) (rest := []) C.fix (met_X6_writesPointer l g F adr i21 a22 q23 (a22 1 (51 : Int32).toNatClampNeg) hw.1) (cw_X6_321 C.ts ⟨Nat.le_of_ble_eq_true rfl, Nat.le_of_ble_eq_true rfl⟩) (preV_of C (P := (MS g F adr i21 a22 q23)) (MS.recv C hM) hS hM _) rfl rfl hl.1 rfl (lv_room (Nat.le_of_ble_eq_true rfl)) dX6_write_85 ⟨Nat.le_of_ble_eq_true rfl, Nat.le_of_ble_eq_true rfl⟩) hS (fun _ _ h => h) (fun _ h => h) (fun z_u t H locs ht _ hw1 hB _ _ hS => ?_)
        obtain ⟨i25, a26, q27⟩ := z_u
        have hM : MS g F adr i25 a26 q27 H := by rw [← ht]; exact hB
        have hw := hw.2 i25 a26 q27 hw1
        exact wkb_X6_write_88 C post   i25 a26 q27 hw hM hS (lv_sub hl [0] rfl)
    · have hw := hw.2 c16
      refine lv_aload_n hx hb dX6_write_38 rfl (lv_at hl 0 rfl) ?_
      refine m_get C hM 1 (by decide) q2339 rfl rfl dX6_write_39 ?_
      refine lv_iconst (v := 3) hx hb dX6_write_42 (by decide) ?_
      refine lv_iload_n hx hb dX6_write_43 rfl (lv_at hl 1 rfl) ?_
      refine lv_iadd hx hb dX6_write_44 ?_
      refine m_ald C hM (j := 1) rfl hw.1 dX6_write_45 ?_
      have hw := hw.2
      refine lv_iconst (v := 1) hx hb dX6_write_46 (by decide) ?_
      refine lv_icmp_ne (tgt := 55) hx hb dX6_write_47 (by decide) (fun c28 => ?_) (fun c28 => ?_)
      · have hw := hw.1 c28
        exact wkb_X6_write_55 C post  (wpb_X6_write_32 post   n) ih i a q x1 hw hM hS (lv_sub hl [0, 1] rfl)
      · have hw := hw.2 c28
        refine lv_aload_n hx hb dX6_write_50 rfl (lv_at hl 0 rfl) ?_
        refine lv_iload_n hx hb dX6_write_51 rfl (lv_at hl 1 rfl) ?_
        refine va_callv (va_runV (As := [.int x1]) (rest := []) C.fix (met_X6_writesInn l g F adr i a q x1 hw.1) (cw_X6_324 C.ts ⟨Nat.le_of_ble_eq_true rfl, Nat.le_of_ble_eq_true rfl⟩) (preV_of C (P := (MS g F adr i a q)) (MS.recv C hM) hS hM _) rfl rfl hl.1 rfl (lv_room (Nat.le_of_ble_eq_true rfl)) dX6_write_52 ⟨Nat.le_of_ble_eq_true rfl, Nat.le_of_ble_eq_true rfl⟩) hS (fun _ _ h => h) (fun _ h => h) (fun z_u t H locs ht _ hw1 hB _ _ hS => ?_)
        obtain ⟨i30, a31, q32⟩ := z_u
        have hM : MS g F adr i30 a31 q32 H := by rw [← ht]; exact hB
        have hw := hw.2 i30 a31 q32 hw1
        exact wkb_X6_write_55 C post  (wpb_X6_write_32 post   n) ih i30 a31 q32 x1 hw hM hS (lv_sub hl [0, 1] rfl)
set_option maxHeartbeats 4000000 in
theorem wk_X6_write (l : Launch) (g : gG) (F : nM) (adr : Nat → Nat) (i : Nat → Int32) (a : Nat → Nat → Int32) (q : Nat → Nat)  (post : Int32 → MSt → Prop) (hw : wp_X6_write post i a q ) : Met l yX6_write (ws_ yX6_write cX6_write 2 (some .int)) rm_X6_write (va_Pc [.ref (adr 0)] (Pg g (MS g F adr i a q))) (va_Qi post (fun u t => MS g F adr u.1 u.2.1 u.2.2 t.heap) (Ag g)) 0 0 (Ag g) := by
  refine Met.ofW (cc := cX6_write) (maxL := 2) (ret := (some .int)) (by decide) rfl ?_
  intro p e s m args below meth c s₁ B hml hv
  obtain ⟨rfl, hG, hM⟩ := hv
  have C : Cx p s m _ meth c cX6_write 2 RX6 (some .int) g := Cx.of B hml hG
  have hx := C.1
  have hb := C.2.1
  have hown := C.2.2.2.1
  have hr := C.2.2.2.2.2.1
  have hlocks := C.2.2.2.2.2.2.1
  have hS : va_S (Ag g) s.heap s.heap [] := va_S.rf
  refine lv_start ([.ref (adr 0)] : List Value) (L := [(0, .ref (adr 0))]) (Nat.le_of_ble_eq_true rfl) rfl (fun ls hl => ?_)
  refine lv_aload_n hx hb dX6_write_0 rfl (lv_at hl 0 rfl) ?_
  refine lv_iconst (v := 0) hx hb dX6_write_1 (by decide) ?_
  refine m_put C hM hS 0 rfl q2338 rfl rfl rfl dX6_write_2 (fun i1 H locs ei1 hM hS => ?_)
  have hw := hw i1 ei1
  refine lv_aload_n hx hb dX6_write_5 rfl (lv_at hl 0 rfl) ?_
  refine va_callv (va_runV (As := []) (rest := []) C.fix (met_X6_laysDue l g F adr i1 a q  ) (cw_X6_75 C.ts ⟨Nat.le_of_ble_eq_true rfl, Nat.le_of_ble_eq_true rfl⟩) (preV_of C (P := (MS g F adr i1 a q)) (MS.recv C hM) hS hM _) rfl rfl hl.1 rfl (lv_room (Nat.le_of_ble_eq_true rfl)) dX6_write_6 ⟨Nat.le_of_ble_eq_true rfl, Nat.le_of_ble_eq_true rfl⟩) hS (fun _ _ h => h) (fun _ h => h) (fun z_u t H locs ht _ hw1 hB _ _ hS => ?_)
  obtain ⟨i3, a4, q5⟩ := z_u
  have hM : MS g F adr i3 a4 q5 H := by rw [← ht]; exact hB
  have hw := hw i3 a4 q5 hw1
  refine lv_aload_n hx hb dX6_write_9 rfl (lv_at hl 0 rfl) ?_
  refine lv_iconst (v := 0) hx hb dX6_write_10 (by decide) ?_
  refine m_put C hM hS 19 rfl q2357 rfl rfl rfl dX6_write_11 (fun i6 H locs ei6 hM hS => ?_)
  have hw := hw i6 ei6
  refine lv_aload_n hx hb dX6_write_14 rfl (lv_at hl 0 rfl) ?_
  obtain ⟨sa7, hvsa7, hsa7⟩ := stX6_230 C
  refine va_ldcS hx hb hown hvsa7 dX6_write_15 ?_
  refine va_callv (va_runV (As := [.ref sa7]) (rest := []) C.fix (met_X6_writes l g F adr i6 a4 q5 tx_road sa7 hsa7 hw.1) (cw_X6_303 C.ts ⟨Nat.le_of_ble_eq_true rfl, Nat.le_of_ble_eq_true rfl⟩) (preV_of C (P := (MS g F adr i6 a4 q5)) (MS.recv C hM) hS hM _) rfl rfl hl.1 rfl (lv_room (Nat.le_of_ble_eq_true rfl)) dX6_write_17 ⟨Nat.le_of_ble_eq_true rfl, Nat.le_of_ble_eq_true rfl⟩) hS (fun _ _ h => h) (fun _ h => h) (fun z_u t H locs ht _ hw1 hB _ _ hS => ?_)
  obtain ⟨i9, a10, q11⟩ := z_u
  have hM : MS g F adr i9 a10 q11 H := by rw [← ht]; exact hB
  have hw := hw.2 i9 a10 q11 hw1
  refine lv_aload_n hx hb dX6_write_20 rfl (lv_at hl 0 rfl) ?_
  refine lv_aload_n hx hb dX6_write_21 rfl (lv_at hl 0 rfl) ?_
  refine m_get C hM 1 (by decide) q2339 rfl rfl dX6_write_22 ?_
  refine lv_iconst (v := 0) hx hb dX6_write_25 (by decide) ?_
  refine m_ald C hM (j := 1) rfl hw.1 dX6_write_26 ?_
  have hw := hw.2
  refine va_callv (va_runV (As := [.int (a10 1 (0 : Int32).toNatClampNeg)]) (rest := []) C.fix (met_X6_writesNumber l g F adr i9 a10 q11 (a10 1 (0 : Int32).toNatClampNeg) hw.1) (cw_X6_307 C.ts ⟨Nat.le_of_ble_eq_true rfl, Nat.le_of_ble_eq_true rfl⟩) (preV_of C (P := (MS g F adr i9 a10 q11)) (MS.recv C hM) hS hM _) rfl rfl hl.1 rfl (lv_room (Nat.le_of_ble_eq_true rfl)) dX6_write_27 ⟨Nat.le_of_ble_eq_true rfl, Nat.le_of_ble_eq_true rfl⟩) hS (fun _ _ h => h) (fun _ h => h) (fun z_u t H locs ht _ hw1 hB _ _ hS => ?_)
  obtain ⟨i13, a14, q15⟩ := z_u
  have hM : MS g F adr i13 a14 q15 H := by rw [← ht]; exact hB
  have hw := hw.2 i13 a14 q15 hw1
  refine lv_iconst (v := 0) hx hb dX6_write_30 (by decide) ?_
  refine lv_istore_n (lv' := [(1, .int 0), (0, .ref (adr 0))]) hx hb dX6_write_31 rfl hl (by decide) rfl (fun ls hl => ?_)
  obtain ⟨n, hw⟩ := hw
  exact wkb_X6_write_32 C post   n i13 a14 q15 0 hw _ _ hM hS _ (lv_sub hl [1, 0] rfl)
set_option maxHeartbeats 4000000 in
theorem met_X6_write (l : Launch) (g : gG) (F : nM) (adr : Nat → Nat) (i : Nat → Int32) (a : Nat → Nat → Int32) (q : Nat → Nat)  (hpre : pre_X6_write i a q ) : Met l yX6_write (ws_ yX6_write cX6_write 2 (some .int)) rm_X6_write (va_Pc [.ref (adr 0)] (Pg g (MS g F adr i a q))) (va_Qi (fun r u => post_X6_write i a q  r u) (fun u t => MS g F adr u.1 u.2.1 u.2.2 t.heap) (Ag g)) 0 0 (Ag g) :=
  wk_X6_write l g F adr i a q  _ (pr_X6_write i a q  hpre)
end
