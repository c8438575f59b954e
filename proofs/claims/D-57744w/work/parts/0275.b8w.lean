set_option maxRecDepth 100000
theorem cw_X6_193 {R : Room} {s : State} {args : Array Value} (hts : ∀ w ∈ lw_all, w.before args s = true) {rm : Room} (hR : rm.frames + 1 ≤ R.frames ∧ 8 + (3 + 11) + rm.locals ≤ R.locals) : CallW R s args RX6 RX6 193 yX6_readsNumber cX6_readsNumber 3 (some .boolean) (ws_ yX6_readsNumber cX6_readsNumber 3 (some .boolean)) rm rm.cells rm.slots 2 := cwV 2 hts (lw_V q2471 q2473 qs39 q98 q2474) rfl rfl rfl (by decide +kernel) hR
theorem cw_X6_196 {R : Room} {s : State} {args : Array Value} (hts : ∀ w ∈ lw_all, w.before args s = true) {rm : Room} (hR : rm.frames + 1 ≤ R.frames ∧ 8 + (3 + 11) + rm.locals ≤ R.locals) : CallB R s args RX6 196 yX6_atMile cX6_atMile 3 (some .int) (ws_ yX6_atMile cX6_atMile 3 (some .int)) rm rm.cells rm.slots 2 ∧ (Cond.static yX6_atMile).before args s = true := va_cwS 2 hts (lw_S q2501 q2502 q98 q2503) rfl rfl rfl (by decide +kernel) hR
theorem cw_X6_44 {R : Room} {s : State} {args : Array Value} (hts : ∀ w ∈ lw_all, w.before args s = true) {rm : Room} (hR : rm.frames + 1 ≤ R.frames ∧ 8 + (3 + 11) + rm.locals ≤ R.locals) : CallB R s args RX6 44 yX6_builds cX6_builds 3 none (ws_ yX6_builds cX6_builds 3 none) rm rm.cells rm.slots 3 ∧ (Cond.static yX6_builds).before args s = true := va_cwS 3 hts (lw_S q2326 q2327 q98 q2328) rfl rfl rfl (by decide +kernel) hR
theorem cw_X6_206 {R : Room} {s : State} {args : Array Value} (hts : ∀ w ∈ lw_all, w.before args s = true) {rm : Room} (hR : rm.frames + 1 ≤ R.frames ∧ 8 + (2 + 11) + rm.locals ≤ R.locals) : CallW R s args RX6 RX6 206 yX6_readsWord cX6_readsWord 2 (some .boolean) (ws_ yX6_readsWord cX6_readsWord 2 (some .boolean)) rm rm.cells rm.slots 1 := cwV 1 hts (lw_V q2461 q2463 qs37 q98 q2464) rfl rfl rfl (by decide +kernel) hR
theorem cw_X6_224 {R : Room} {s : State} {args : Array Value} (hts : ∀ w ∈ lw_all, w.before args s = true) {rm : Room} (hR : rm.frames + 1 ≤ R.frames ∧ 8 + (3 + 11) + rm.locals ≤ R.locals) : CallW R s args RX6 RX6 224 yX6_readsInn cX6_readsInn 3 (some .boolean) (ws_ yX6_readsInn cX6_readsInn 3 (some .boolean)) rm rm.cells rm.slots 1 := cwV 1 hts (lw_V q2497 q2499 qs44 q98 q2500) rfl rfl rfl (by decide +kernel) hR
theorem cw_X6_227 {R : Room} {s : State} {args : Array Value} (hts : ∀ w ∈ lw_all, w.before args s = true) {rm : Room} (hR : rm.frames + 1 ≤ R.frames ∧ 8 + (3 + 11) + rm.locals ≤ R.locals) : CallW R s args RX6 RX6 227 yX6_readsOwnPointer cX6_readsOwnPointer 3 (some .boolean) (ws_ yX6_readsOwnPointer cX6_readsOwnPointer 3 (some .boolean)) rm rm.cells rm.slots 2 := cwV 2 hts (lw_V q2510 q2512 qs46 q98 q2513) rfl rfl rfl (by decide +kernel) hR
section
variable {p : Program} {l : Launch} {e : Env} {s : State} {m : MethodId} {args : Array Value} {below : List Frame} {meth : Method} {c : Code} {g : gG} {F : nM} {adr : Nat → Nat}
abbrev rm_X6_readsInn : Room := ({ frames := 9, cells := 0, slots := 0, locals := 576 } : Room)
set_option maxHeartbeats 4000000 in
theorem wkb_X6_readsInn_104 (C : Cx p s m args meth c cX6_readsInn 3 RX6 (some .boolean) g) (post : Int32 → MSt → Prop)  (x : Int32) (i : Nat → Int32) (a : Nat → Nat → Int32) (q : Nat → Nat) (x2 : Int32) (hw : wpb_X6_readsInn_104 post  x i a q x2) {H : Heap} {locs : List Loc} (hM : MS g F adr i a q H) (hS : va_S (Ag g) s.heap H locs) {ls : Array Slot} (hl : lv_has ls 3 [(0, .ref (adr 0)), (2, .int x2)]) : W p l e rm_X6_readsInn s m args below meth c H locs 0 0 (MQ below (va_Qi post (fun u t => MS g F adr u.1 u.2.1 u.2.2 t.heap) (Ag g)) args s 0 0 (Ag g)) (F0 m 104 ls []) := by
  have hx := C.1
  have hb := C.2.1
  have hown := C.2.2.2.1
  have hr := C.2.2.2.2.2.1
  have hlocks := C.2.2.2.2.2.2.1
  refine lv_aload_n hx hb dX6_readsInn_104 rfl (lv_at hl 0 rfl) ?_
  obtain ⟨sa34, hvsa34, hsa34⟩ := stX6_204 C
  refine va_ldcS hx hb hown hvsa34 dX6_readsInn_105 ?_
  refine va_calli (va_runV (As := [.ref sa34]) (rest := []) C.fix (met_X6_readsWord l g F adr i a q tx_letters sa34 hsa34 hw.1) (cw_X6_206 C.ts ⟨Nat.le_of_ble_eq_true rfl, Nat.le_of_ble_eq_true rfl⟩) (preV_of C (P := (MS g F adr i a q)) (MS.recv C hM) hS hM _) rfl rfl hl.1 rfl (lv_room (Nat.le_of_ble_eq_true rfl)) dX6_readsInn_107 ⟨Nat.le_of_ble_eq_true rfl, Nat.le_of_ble_eq_true rfl⟩) hS (fun _ _ h => h) (fun _ h => h) (fun r35 z_u t H locs ht _ hw1 hB _ _ hS => ?_)
  obtain ⟨i36, a37, q38⟩ := z_u
  have hM : MS g F adr i36 a37 q38 H := by rw [← ht]; exact hB
  have hw := hw.2 r35 i36 a37 q38 hw1
  refine lv_if_eq (tgt := 138) hx hb dX6_readsInn_110 (by decide) (fun c39 => ?_) (fun c39 => ?_)
  · have hw := hw.1 c39
    refine lv_iconst (v := 1) hx hb dX6_readsInn_138 (by decide) ?_
    exact W.zret (v := 1) hx hb hr hw.1 (fun t ht _ => ⟨⟨1, (i36, a37, q38), rfl, hw.2, hM.at ht⟩, hS.F ht⟩) hS.2.2 dX6_readsInn_139
  · have hw := hw.2 c39
    refine lv_aload_n hx hb dX6_readsInn_113 rfl (lv_at hl 0 rfl) ?_
    refine lv_iconst (v := 1) hx hb dX6_readsInn_114 (by decide) ?_
    refine lv_bipush (v := 99) hx hb dX6_readsInn_115 (by decide) ?_
    refine va_calli (va_runV (As := [.int 1, .int 99]) (rest := []) C.fix (met_X6_readsNumber l g F adr i36 a37 q38 1 99 hw.1) (cw_X6_193 C.ts ⟨Nat.le_of_ble_eq_true rfl, Nat.le_of_ble_eq_true rfl⟩) (preV_of C (P := (MS g F adr i36 a37 q38)) (MS.recv C hM) hS hM _) rfl rfl hl.1 rfl (lv_room (Nat.le_of_ble_eq_true rfl)) dX6_readsInn_117 ⟨Nat.le_of_ble_eq_true rfl, Nat.le_of_ble_eq_true rfl⟩) hS (fun _ _ h => h) (fun _ h => h) (fun r40 z_u t H locs ht _ hw1 hB _ _ hS => ?_)
    obtain ⟨i41, a42, q43⟩ := z_u
    have hM : MS g F adr i41 a42 q43 H := by rw [← ht]; exact hB
    have hw := hw.2 r40 i41 a42 q43 hw1
    refine lv_if_ne (tgt := 125) hx hb dX6_readsInn_120 (by decide) (fun c44 => ?_) (fun c44 => ?_)
    · have hw := hw.1 c44
      refine lv_aload_n hx hb dX6_readsInn_125 rfl (lv_at hl 0 rfl) ?_
      refine m_get C hM 3 (by decide) q2341 rfl rfl dX6_readsInn_126 ?_
      refine lv_bipush (v := 39) hx hb dX6_readsInn_129 (by decide) ?_
      refine lv_iload_n hx hb dX6_readsInn_131 rfl (lv_at hl 1 rfl) ?_
      refine lv_iadd hx hb dX6_readsInn_132 ?_
      refine lv_aload_n hx hb dX6_readsInn_133 rfl (lv_at hl 0 rfl) ?_
      refine m_get C hM 23 (by decide) q2361 rfl rfl dX6_readsInn_134 ?_
      refine m_ast C hM hS (j := 3) rfl hw.1 dX6_readsInn_137 (fun a45 H locs ea45 hM hS => ?_)
      have hw := hw.2 a45 ea45
      refine lv_iconst (v := 1) hx hb dX6_readsInn_138 (by decide) ?_
      exact W.zret (v := 1) hx hb hr hw.1 (fun t ht _ => ⟨⟨1, (i41, a45, q43), rfl, hw.2, hM.at ht⟩, hS.F ht⟩) hS.2.2 dX6_readsInn_139
    · have hw := hw.2 c44
      refine lv_iconst (v := 0) hx hb dX6_readsInn_123 (by decide) ?_
      exact W.zret (v := 0) hx hb hr hw.1 (fun t ht _ => ⟨⟨0, (i41, a42, q43), rfl, hw.2, hM.at ht⟩, hS.F ht⟩) hS.2.2 dX6_readsInn_124
set_option maxHeartbeats 4000000 in
theorem wkb_X6_readsInn_90 (C : Cx p s m args meth c cX6_readsInn 3 RX6 (some .boolean) g) (post : Int32 → MSt → Prop)  (x : Int32) (i : Nat → Int32) (a : Nat → Nat → Int32) (q : Nat → Nat) (x2 : Int32) (s0 : Int32) (s1 : Int32) (hw : wpb_X6_readsInn_90 post  x i a q x2 s0 s1) {H : Heap} {locs : List Loc} (hM : MS g F adr i a q H) (hS : va_S (Ag g) s.heap H locs) {ls : Array Slot} (hl : lv_has ls 3 [(0, .ref (adr 0)), (2, .int x2)]) : W p l e rm_X6_readsInn s m args below meth c H locs 0 0 (MQ below (va_Qi post (fun u t => MS g F adr u.1 u.2.1 u.2.2 t.heap) (Ag g)) args s 0 0 (Ag g)) (F0 m 90 ls [.int s0, .int s1, .ref (adr 3)]) := by
  have hx := C.1
  have hb := C.2.1
  have hown := C.2.2.2.1
  have hr := C.2.2.2.2.2.1
  have hlocks := C.2.2.2.2.2.2.1
  refine m_ast C hM hS (j := 3) rfl hw.1 dX6_readsInn_90 (fun a26 H locs ea26 hM hS => ?_)
  have hw := hw.2 a26 ea26
  refine lv_aload_n hx hb dX6_readsInn_91 rfl (lv_at hl 0 rfl) ?_
  obtain ⟨sa27, hvsa27, hsa27⟩ := stX6_202 C
  refine va_ldcS hx hb hown hvsa27 dX6_readsInn_92 ?_
  refine vp_callSi (va_runV (As := [.ref sa27]) (rest := []) C.fix (met_X6_isWord l g F adr i a26 q tx_closed sa27 hsa27 hw.1) (cw_X6_176 C.ts ⟨Nat.le_of_ble_eq_true rfl, Nat.le_of_ble_eq_true rfl⟩) (preV_of C (P := (MS g F adr i a26 q)) (MS.recv C hM) hS hM _) rfl rfl hl.1 rfl (lv_room (Nat.le_of_ble_eq_true rfl)) dX6_readsInn_94 ⟨Nat.le_of_ble_eq_true rfl, Nat.le_of_ble_eq_true rfl⟩).run (fun r28 er28 => ?_)
  have hw := hw.2 r28 er28
  refine lv_if_eq (tgt := 104) hx hb dX6_readsInn_97 (by decide) (fun c29 => ?_) (fun c29 => ?_)
  · have hw := hw.1 c29
    exact wkb_X6_readsInn_104 C post x  i a26 q x2 hw hM hS (lv_sub hl [0, 1] rfl)
  · have hw := hw.2 c29
    refine lv_aload_n hx hb dX6_readsInn_100 rfl (lv_at hl 0 rfl) ?_
    refine va_callv (va_runV (As := []) (rest := []) C.fix (met_X6_advances l g F adr i a26 q  hw.1) (cw_X6_180 C.ts ⟨Nat.le_of_ble_eq_true rfl, Nat.le_of_ble_eq_true rfl⟩) (preV_of C (P := (MS g F adr i a26 q)) (MS.recv C hM) hS hM _) rfl rfl hl.1 rfl (lv_room (Nat.le_of_ble_eq_true rfl)) dX6_readsInn_101 ⟨Nat.le_of_ble_eq_true rfl, Nat.le_of_ble_eq_true rfl⟩) hS (fun _ _ h => h) (fun _ h => h) (fun z_u t H locs ht _ hw1 hB _ _ hS => ?_)
    obtain ⟨i31, a32, q33⟩ := z_u
    have hM : MS g F adr i31 a32 q33 H := by rw [← ht]; exact hB
    have hw := hw.2 i31 a32 q33 hw1
    exact wkb_X6_readsInn_104 C post x  i31 a32 q33 x2 hw hM hS (lv_sub hl [0, 1] rfl)
set_option maxHeartbeats 4000000 in
theorem wk_X6_readsInn (l : Launch) (g : gG) (F : nM) (adr : Nat → Nat) (i : Nat → Int32) (a : Nat → Nat → Int32) (q : Nat → Nat) (x : Int32) (post : Int32 → MSt → Prop) (hw : wp_X6_readsInn post i a q x) : Met l yX6_readsInn (ws_ yX6_readsInn cX6_readsInn 3 (some .boolean)) rm_X6_readsInn (va_Pc [.ref (adr 0), .int x] (Pg g (MS g F adr i a q))) (va_Qi post (fun u t => MS g F adr u.1 u.2.1 u.2.2 t.heap) (Ag g)) 0 0 (Ag g) := by
  refine Met.ofW (cc := cX6_readsInn) (maxL := 3) (ret := (some .boolean)) (by decide) rfl ?_
  intro p e s m args below meth c s₁ B hml hv
  obtain ⟨rfl, hG, hM⟩ := hv
  have C : Cx p s m _ meth c cX6_readsInn 3 RX6 (some .boolean) g := Cx.of B hml hG
  have hx := C.1
  have hb := C.2.1
  have hown := C.2.2.2.1
  have hr := C.2.2.2.2.2.1
  have hlocks := C.2.2.2.2.2.2.1
  have hS : va_S (Ag g) s.heap s.heap [] := va_S.rf
  refine lv_start ([.ref (adr 0), .int x] : List Value) (L := [(0, .ref (adr 0)), (1, .int x)]) (Nat.le_of_ble_eq_true rfl) rfl (fun ls hl => ?_)
  refine lv_aload_n hx hb dX6_readsInn_0 rfl (lv_at hl 0 rfl) ?_
  refine lv_iload_n hx hb dX6_readsInn_1 rfl (lv_at hl 1 rfl) ?_
  refine lv_iconst (v := 1) hx hb dX6_readsInn_2 (by decide) ?_
  refine lv_iadd hx hb dX6_readsInn_3 ?_
  refine lv_bipush (v := 11) hx hb dX6_readsInn_4 (by decide) ?_
  refine va_calli (va_runV (As := [.int (x + 1), .int 11]) (rest := []) C.fix (met_X6_readsNumber l g F adr i a q (x + 1) 11 hw.1) (cw_X6_193 C.ts ⟨Nat.le_of_ble_eq_true rfl, Nat.le_of_ble_eq_true rfl⟩) (preV_of C (P := (MS g F adr i a q)) (MS.recv C hM) hS hM _) rfl rfl hl.1 rfl (lv_room (Nat.le_of_ble_eq_true rfl)) dX6_readsInn_6 ⟨Nat.le_of_ble_eq_true rfl, Nat.le_of_ble_eq_true rfl⟩) hS (fun _ _ h => h) (fun _ h => h) (fun r1 z_u t H locs ht _ hw1 hB _ _ hS => ?_)
  obtain ⟨i2, a3, q4⟩ := z_u
  have hM : MS g F adr i2 a3 q4 H := by rw [← ht]; exact hB
  have hw := hw.2 r1 i2 a3 q4 hw1
  refine lv_if_ne (tgt := 14) hx hb dX6_readsInn_9 (by decide) (fun c5 => ?_) (fun c5 => ?_)
  · have hw := hw.1 c5
    refine lv_aload_n hx hb dX6_readsInn_14 rfl (lv_at hl 0 rfl) ?_
    refine m_get C hM 23 (by decide) q2361 rfl rfl dX6_readsInn_15 ?_
    refine lv_topi (fun z6 ez6 => ?_)
    have hw := hw z6 ez6
    refine lv_istore_n (lv' := [(2, .int z6), (0, .ref (adr 0)), (1, .int x)]) hx hb dX6_readsInn_18 rfl hl (by decide) rfl (fun ls hl => ?_)
    refine lv_aload_n hx hb dX6_readsInn_19 rfl (lv_at hl 1 rfl) ?_
    refine lv_iconst (v := 0) hx hb dX6_readsInn_20 (by decide) ?_
    refine lv_sipush (v := 999) hx hb dX6_readsInn_21 (by decide) ?_
    refine va_calli (va_runV (As := [.int 0, .int 999]) (rest := []) C.fix (met_X6_isNumber l g F adr i2 a3 q4 0 999 hw.1) (cw_X6_186 C.ts ⟨Nat.le_of_ble_eq_true rfl, Nat.le_of_ble_eq_true rfl⟩) (preV_of C (P := (MS g F adr i2 a3 q4)) (MS.recv C hM) hS hM _) rfl rfl hl.1 rfl (lv_room (Nat.le_of_ble_eq_true rfl)) dX6_readsInn_24 ⟨Nat.le_of_ble_eq_true rfl, Nat.le_of_ble_eq_true rfl⟩) hS (fun _ _ h => h) (fun _ h => h) (fun r7 z_u t H locs ht _ hw1 hB _ _ hS => ?_)
    obtain ⟨i8, a9, q10⟩ := z_u
    have hM : MS g F adr i8 a9 q10 H := by rw [← ht]; exact hB
    have hw := hw.2 r7 i8 a9 q10 hw1
    refine lv_if_eq (tgt := 45) hx hb dX6_readsInn_27 (by decide) (fun c11 => ?_) (fun c11 => ?_)
    · have hw := hw.1 c11
      refine lv_iconst (v := 0) hx hb dX6_readsInn_45 (by decide) ?_
      exact W.zret (v := 0) hx hb hr hw.1 (fun t ht _ => ⟨⟨0, (i8, a9, q10), rfl, hw.2, hM.at ht⟩, hS.F ht⟩) hS.2.2 dX6_readsInn_46
    · have hw := hw.2 c11
      refine lv_aload_n hx hb dX6_readsInn_30 rfl (lv_at hl 1 rfl) ?_
      refine m_get C hM 3 (by decide) q2341 rfl rfl dX6_readsInn_31 ?_
      refine lv_aload_n hx hb dX6_readsInn_34 rfl (lv_at hl 1 rfl) ?_
      refine m_get C hM 23 (by decide) q2361 rfl rfl dX6_readsInn_35 ?_
      refine vp_callSi (va_runS (As := [.ref (adr 3), .int (i8 23)]) (rest := []) C.fix (met_X6_atMile l g F adr i8 a9 q10 3 (by decide) (i8 23) ) (cw_X6_196 C.ts ⟨Nat.le_of_ble_eq_true rfl, Nat.le_of_ble_eq_true rfl⟩) (preS_of C (P := (MS g F adr i8 a9 q10)) hS hM _) rfl rfl hl.1 rfl (lv_room (Nat.le_of_ble_eq_true rfl)) dX6_readsInn_38 ⟨Nat.le_of_ble_eq_true rfl, Nat.le_of_ble_eq_true rfl⟩).run (fun r12 er12 => ?_)
      have hw := hw r12 er12
      refine lv_iconst (v := (-1)) hx hb dX6_readsInn_41 (by decide) ?_
      refine lv_icmp_eq (tgt := 47) hx hb dX6_readsInn_42 (by decide) (fun c13 => ?_) (fun c13 => ?_)
      · have hw := hw.1 c13
        refine lv_aload_n hx hb dX6_readsInn_47 rfl (lv_at hl 1 rfl) ?_
        refine m_get C hM 3 (by decide) q2341 rfl rfl dX6_readsInn_48 ?_
        refine lv_iload_n hx hb dX6_readsInn_51 rfl (lv_at hl 0 rfl) ?_
        refine lv_aload_n hx hb dX6_readsInn_52 rfl (lv_at hl 1 rfl) ?_
        refine m_get C hM 23 (by decide) q2361 rfl rfl dX6_readsInn_53 ?_
        refine va_callv (va_runS (As := [.ref (adr 3), .int z6, .int (i8 23)]) (rest := []) C.fix (met_X6_builds l g F adr i8 a9 q10 3 (by decide) z6 (i8 23) hw.1) (cw_X6_44 C.ts ⟨Nat.le_of_ble_eq_true rfl, Nat.le_of_ble_eq_true rfl⟩) (preS_of C (P := (MS g F adr i8 a9 q10)) hS hM _) rfl rfl hl.1 rfl (lv_room (Nat.le_of_ble_eq_true rfl)) dX6_readsInn_56 ⟨Nat.le_of_ble_eq_true rfl, Nat.le_of_ble_eq_true rfl⟩) hS (fun _ _ h => h) (fun _ h => h) (fun z_u t H locs ht _ hw1 hB _ _ hS => ?_)
        obtain ⟨i15, a16, q17⟩ := z_u
        have hM : MS g F adr i15 a16 q17 H := by rw [← ht]; exact hB
        have hw := hw.2 i15 a16 q17 hw1
        refine lv_aload_n hx hb dX6_readsInn_59 rfl (lv_at hl 1 rfl) ?_
        refine lv_iload_n hx hb dX6_readsInn_60 rfl (lv_at hl 0 rfl) ?_
        refine m_put C hM hS 24 rfl q2362 rfl rfl rfl dX6_readsInn_61 (fun i18 H locs ei18 hM hS => ?_)
        have hw := hw i18 ei18
        refine lv_aload_n hx hb dX6_readsInn_64 rfl (lv_at hl 1 rfl) ?_
        refine va_callv (va_runV (As := []) (rest := []) C.fix (met_X6_advances l g F adr i18 a16 q17  hw.1) (cw_X6_180 C.ts ⟨Nat.le_of_ble_eq_true rfl, Nat.le_of_ble_eq_true rfl⟩) (preV_of C (P := (MS g F adr i18 a16 q17)) (MS.recv C hM) hS hM _) rfl rfl hl.1 rfl (lv_room (Nat.le_of_ble_eq_true rfl)) dX6_readsInn_65 ⟨Nat.le_of_ble_eq_true rfl, Nat.le_of_ble_eq_true rfl⟩) hS (fun _ _ h => h) (fun _ h => h) (fun z_u t H locs ht _ hw1 hB _ _ hS => ?_)
        obtain ⟨i20, a21, q22⟩ := z_u
        have hM : MS g F adr i20 a21 q22 H := by rw [← ht]; exact hB
        have hw := hw.2 i20 a21 q22 hw1
        refine lv_aload_n hx hb dX6_readsInn_68 rfl (lv_at hl 1 rfl) ?_
        refine m_get C hM 3 (by decide) q2341 rfl rfl dX6_readsInn_69 ?_
        refine lv_bipush (v := 27) hx hb dX6_readsInn_72 (by decide) ?_
        refine lv_iload_n hx hb dX6_readsInn_74 rfl (lv_at hl 0 rfl) ?_
        refine lv_iadd hx hb dX6_readsInn_75 ?_
        refine lv_aload_n hx hb dX6_readsInn_76 rfl (lv_at hl 1 rfl) ?_
        obtain ⟨sa23, hvsa23, hsa23⟩ := stX6_202 C
        refine va_ldcS hx hb hown hvsa23 dX6_readsInn_77 ?_
        refine vp_callSi (va_runV (As := [.ref sa23]) (rest := [.int (27 + z6), .ref (adr 3)]) C.fix (met_X6_isWord l g F adr i20 a21 q22 tx_closed sa23 hsa23 hw.1) (cw_X6_176 C.ts ⟨Nat.le_of_ble_eq_true rfl, Nat.le_of_ble_eq_true rfl⟩) (preV_of C (P := (MS g F adr i20 a21 q22)) (MS.recv C hM) hS hM _) rfl rfl hl.1 rfl (lv_room (Nat.le_of_ble_eq_true rfl)) dX6_readsInn_79 ⟨Nat.le_of_ble_eq_true rfl, Nat.le_of_ble_eq_true rfl⟩).run (fun r24 er24 => ?_)
        have hw := hw.2 r24 er24
        refine lv_if_eq (tgt := 89) hx hb dX6_readsInn_82 (by decide) (fun c25 => ?_) (fun c25 => ?_)
        · have hw := hw.1 c25
          refine lv_iconst (v := 1) hx hb dX6_readsInn_89 (by decide) ?_
          exact wkb_X6_readsInn_90 C post x  i20 a21 q22 z6 1 (27 + z6) hw hM hS (lv_sub hl [1, 0] rfl)
        · have hw := hw.2 c25
          refine lv_iconst (v := 0) hx hb dX6_readsInn_85 (by decide) ?_
          refine lv_goto (tgt := 90) hx hb dX6_readsInn_86 (by decide) ?_
          exact wkb_X6_readsInn_90 C post x  i20 a21 q22 z6 0 (27 + z6) hw hM hS (lv_sub hl [1, 0] rfl)
      · have hw := hw.2 c13
        refine lv_iconst (v := 0) hx hb dX6_readsInn_45 (by decide) ?_
        exact W.zret (v := 0) hx hb hr hw.1 (fun t ht _ => ⟨⟨0, (i8, a9, q10), rfl, hw.2, hM.at ht⟩, hS.F ht⟩) hS.2.2 dX6_readsInn_46
  · have hw := hw.2 c5
    refine lv_iconst (v := 0) hx hb dX6_readsInn_12 (by decide) ?_
    exact W.zret (v := 0) hx hb hr hw.1 (fun t ht _ => ⟨⟨0, (i2, a3, q4), rfl, hw.2, hM.at ht⟩, hS.F ht⟩) hS.2.2 dX6_readsInn_13
set_option maxHeartbeats 4000000 in
theorem met_X6_readsInn (l : Launch) (g : gG) (F : nM) (adr : Nat → Nat) (i : Nat → Int32) (a : Nat → Nat → Int32) (q : Nat → Nat) (x : Int32) (hpre : pre_X6_readsInn i a q x) : Met l yX6_readsInn (ws_ yX6_readsInn cX6_readsInn 3 (some .boolean)) rm_X6_readsInn (va_Pc [.ref (adr 0), .int x] (Pg g (MS g F adr i a q))) (va_Qi (fun r u => post_X6_readsInn i a q x r u) (fun u t => MS g F adr u.1 u.2.1 u.2.2 t.heap) (Ag g)) 0 0 (Ag g) :=
  wk_X6_readsInn l g F adr i a q x _ (pr_X6_readsInn i a q x hpre)

abbrev rm_X6_readsPart : Room := ({ frames := 10, cells := 0, slots := 0, locals := 640 } : Room)
set_option maxHeartbeats 4000000 in
theorem wk_X6_readsPart (l : Launch) (g : gG) (F : nM) (adr : Nat → Nat) (i : Nat → Int32) (a : Nat → Nat → Int32) (q : Nat → Nat) (x : Int32) (y : Int32) (post : Int32 → MSt → Prop) (hw : wp_X6_readsPart post i a q x y) : Met l yX6_readsPart (ws_ yX6_readsPart cX6_readsPart 4 (some .boolean)) rm_X6_readsPart (va_Pc [.ref (adr 0), .int x, .int y] (Pg g (MS g F adr i a q))) (va_Qi post (fun u t => MS g F adr u.1 u.2.1 u.2.2 t.heap) (Ag g)) 0 0 (Ag g) := by
  refine Met.ofW (cc := cX6_readsPart) (maxL := 4) (ret := (some .boolean)) (by decide) rfl ?_
  intro p e s m args below meth c s₁ B hml hv
  obtain ⟨rfl, hG, hM⟩ := hv
  have C : Cx p s m _ meth c cX6_readsPart 4 RX6 (some .boolean) g := Cx.of B hml hG
  have hx := C.1
  have hb := C.2.1
  have hown := C.2.2.2.1
  have hr := C.2.2.2.2.2.1
  have hlocks := C.2.2.2.2.2.2.1
  have hS : va_S (Ag g) s.heap s.heap [] := va_S.rf
  refine lv_start ([.ref (adr 0), .int x, .int y] : List Value) (L := [(0, .ref (adr 0)), (1, .int x), (2, .int y)]) (Nat.le_of_ble_eq_true rfl) rfl (fun ls hl => ?_)
  refine lv_iload_n hx hb dX6_readsPart_0 rfl (lv_at hl 1 rfl) ?_
  rcases sw_cases x 0 4 (by decide) with c_o | c_i
  · have hw := hw.1 c_o
    refine lv_tableOut (tgt := 85) hx hb dX6_readsPart_1 c_o (by decide) ?_
    refine lv_aload_n hx hb dX6_readsPart_85 rfl (lv_at hl 0 rfl) ?_
    refine lv_bipush (v := 66) hx hb dX6_readsPart_86 (by decide) ?_
    refine lv_iload_n hx hb dX6_readsPart_88 rfl (lv_at hl 2 rfl) ?_
    refine va_calli (va_runV (As := [.int 66, .int y]) (rest := []) C.fix (met_X6_readsOwnPointer l g F adr i a q 66 y hw.1) (cw_X6_227 C.ts ⟨Nat.le_of_ble_eq_true rfl, Nat.le_of_ble_eq_true rfl⟩) (preV_of C (P := (MS g F adr i a q)) (MS.recv C hM) hS hM _) rfl rfl hl.1 rfl (lv_room (Nat.le_of_ble_eq_true rfl)) dX6_readsPart_89 ⟨Nat.le_of_ble_eq_true rfl, Nat.le_of_ble_eq_true rfl⟩) hS (fun _ _ h => h) (fun _ h => h) (fun r1 z_u t H locs ht _ hw1 hB _ _ hS => ?_)
    obtain ⟨i2, a3, q4⟩ := z_u
    have hM : MS g F adr i2 a3 q4 H := by rw [← ht]; exact hB
    have hw := hw.2 r1 i2 a3 q4 hw1
    exact W.zret (v := r1) hx hb hr hw.1 (fun t ht _ => ⟨⟨r1, (i2, a3, q4), rfl, hw.2, hM.at ht⟩, hS.F ht⟩) hS.2.2 dX6_readsPart_92
  · have hw := hw.2
    rcases sw_5 c_i with c_0 | c_1 | c_2 | c_3 | c_4
    · have hw := hw.1 c_0
      refine lv_tableIn (off := 35) (tgt := 36) hx hb dX6_readsPart_1 (by rw [c_0]; decide) (by rw [c_0]; decide) (by rw [c_0]; rfl) (by decide) ?_
      refine lv_aload_n hx hb dX6_readsPart_36 rfl (lv_at hl 0 rfl) ?_
      refine lv_iload_n hx hb dX6_readsPart_37 rfl (lv_at hl 2 rfl) ?_
      refine va_calli (va_runV (As := [.int y]) (rest := []) C.fix (met_X6_readsInn l g F adr i a q y hw.1) (cw_X6_224 C.ts ⟨Nat.le_of_ble_eq_true rfl, Nat.le_of_ble_eq_true rfl⟩) (preV_of C (P := (MS g F adr i a q)) (MS.recv C hM) hS hM _) rfl rfl hl.1 rfl (lv_room (Nat.le_of_ble_eq_true rfl)) dX6_readsPart_38 ⟨Nat.le_of_ble_eq_true rfl, Nat.le_of_ble_eq_true rfl⟩) hS (fun _ _ h => h) (fun _ h => h) (fun r5 z_u t H locs ht _ hw1 hB _ _ hS => ?_)
      obtain ⟨i6, a7, q8⟩ := z_u
      have hM : MS g F adr i6 a7 q8 H := by rw [← ht]; exact hB
      have hw := hw.2 r5 i6 a7 q8 hw1
      exact W.zret (v := r5) hx hb hr hw.1 (fun t ht _ => ⟨⟨r5, (i6, a7, q8), rfl, hw.2, hM.at ht⟩, hS.F ht⟩) hS.2.2 dX6_readsPart_41
    · have hw := hw.2.1 c_1
      refine lv_tableIn (off := 41) (tgt := 42) hx hb dX6_readsPart_1 (by rw [c_1]; decide) (by rw [c_1]; decide) (by rw [c_1]; rfl) (by decide) ?_
      refine lv_aload_n hx hb dX6_readsPart_42 rfl (lv_at hl 0 rfl) ?_
      refine lv_bipush (v := 51) hx hb dX6_readsPart_43 (by decide) ?_
      refine va_calli (va_runV (As := [.int 51]) (rest := []) C.fix (met_X6_readsPointer l g F adr i a q 51 hw.1) (cw_X6_209 C.ts ⟨Nat.le_of_ble_eq_true rfl, Nat.le_of_ble_eq_true rfl⟩) (preV_of C (P := (MS g F adr i a q)) (MS.recv C hM) hS hM _) rfl rfl hl.1 rfl (lv_room (Nat.le_of_ble_eq_true rfl)) dX6_readsPart_45 ⟨Nat.le_of_ble_eq_true rfl, Nat.le_of_ble_eq_true rfl⟩) hS (fun _ _ h => h) (fun _ h => h) (fun r9 z_u t H locs ht _ hw1 hB _ _ hS => ?_)
      obtain ⟨i10, a11, q12⟩ := z_u
      have hM : MS g F adr i10 a11 q12 H := by rw [← ht]; exact hB
      have hw := hw.2 r9 i10 a11 q12 hw1
      exact W.zret (v := r9) hx hb hr hw.1 (fun t ht _ => ⟨⟨r9, (i10, a11, q12), rfl, hw.2, hM.at ht⟩, hS.F ht⟩) hS.2.2 dX6_readsPart_48
    · have hw := hw.2.2.1 c_2
      refine lv_tableIn (off := 48) (tgt := 49) hx hb dX6_readsPart_1 (by rw [c_2]; decide) (by rw [c_2]; decide) (by rw [c_2]; rfl) (by decide) ?_
      refine lv_aload_n hx hb dX6_readsPart_49 rfl (lv_at hl 0 rfl) ?_
      refine lv_bipush (v := 52) hx hb dX6_readsPart_50 (by decide) ?_
      refine va_calli (va_runV (As := [.int 52]) (rest := []) C.fix (met_X6_readsPointer l g F adr i a q 52 hw.1) (cw_X6_209 C.ts ⟨Nat.le_of_ble_eq_true rfl, Nat.le_of_ble_eq_true rfl⟩) (preV_of C (P := (MS g F adr i a q)) (MS.recv C hM) hS hM _) rfl rfl hl.1 rfl (lv_room (Nat.le_of_ble_eq_true rfl)) dX6_readsPart_52 ⟨Nat.le_of_ble_eq_true rfl, Nat.le_of_ble_eq_true rfl⟩) hS (fun _ _ h => h) (fun _ h => h) (fun r13 z_u t H locs ht _ hw1 hB _ _ hS => ?_)
      obtain ⟨i14, a15, q16⟩ := z_u
      have hM : MS g F adr i14 a15 q16 H := by rw [← ht]; exact hB
      have hw := hw.2 r13 i14 a15 q16 hw1
      exact W.zret (v := r13) hx hb hr hw.1 (fun t ht _ => ⟨⟨r13, (i14, a15, q16), rfl, hw.2, hM.at ht⟩, hS.F ht⟩) hS.2.2 dX6_readsPart_55
    · have hw := hw.2.2.2.1 c_3
      refine lv_tableIn (off := 55) (tgt := 56) hx hb dX6_readsPart_1 (by rw [c_3]; decide) (by rw [c_3]; decide) (by rw [c_3]; rfl) (by decide) ?_
      refine lv_aload_n hx hb dX6_readsPart_56 rfl (lv_at hl 0 rfl) ?_
      refine lv_iconst (v := 0) hx hb dX6_readsPart_57 (by decide) ?_
      refine lv_bipush (v := 12) hx hb dX6_readsPart_58 (by decide) ?_
      refine va_calli (va_runV (As := [.int 0, .int 12]) (rest := []) C.fix (met_X6_readsNumber l g F adr i a q 0 12 hw.1) (cw_X6_193 C.ts ⟨Nat.le_of_ble_eq_true rfl, Nat.le_of_ble_eq_true rfl⟩) (preV_of C (P := (MS g F adr i a q)) (MS.recv C hM) hS hM _) rfl rfl hl.1 rfl (lv_room (Nat.le_of_ble_eq_true rfl)) dX6_readsPart_60 ⟨Nat.le_of_ble_eq_true rfl, Nat.le_of_ble_eq_true rfl⟩) hS (fun _ _ h => h) (fun _ h => h) (fun r17 z_u t H locs ht _ hw1 hB _ _ hS => ?_)
      obtain ⟨i18, a19, q20⟩ := z_u
      have hM : MS g F adr i18 a19 q20 H := by rw [← ht]; exact hB
      have hw := hw.2 r17 i18 a19 q20 hw1
      refine lv_istore_n (lv' := [(3, .int r17), (0, .ref (adr 0)), (1, .int x), (2, .int y)]) hx hb dX6_readsPart_63 rfl hl (by decide) rfl (fun ls hl => ?_)
      refine lv_aload_n hx hb dX6_readsPart_64 rfl (lv_at hl 1 rfl) ?_
      refine m_get C hM 3 (by decide) q2341 rfl rfl dX6_readsPart_65 ?_
      refine lv_bipush (v := 53) hx hb dX6_readsPart_68 (by decide) ?_
      refine lv_aload_n hx hb dX6_readsPart_70 rfl (lv_at hl 1 rfl) ?_
      refine m_get C hM 23 (by decide) q2361 rfl rfl dX6_readsPart_71 ?_
      refine m_ast C hM hS (j := 3) rfl hw.1 dX6_readsPart_74 (fun a21 H locs ea21 hM hS => ?_)
      have hw := hw.2 a21 ea21
      refine lv_iload_n hx hb dX6_readsPart_75 rfl (lv_at hl 0 rfl) ?_
      exact W.zret (v := r17) hx hb hr hw.1 (fun t ht _ => ⟨⟨r17, (i18, a21, q20), rfl, hw.2, hM.at ht⟩, hS.F ht⟩) hS.2.2 dX6_readsPart_76
    · have hw := hw.2.2.2.2 c_4
      refine lv_tableIn (off := 76) (tgt := 77) hx hb dX6_readsPart_1 (by rw [c_4]; decide) (by rw [c_4]; decide) (by rw [c_4]; rfl) (by decide) ?_
      refine lv_aload_n hx hb dX6_readsPart_77 rfl (lv_at hl 0 rfl) ?_
      refine lv_bipush (v := 54) hx hb dX6_readsPart_78 (by decide) ?_
      refine lv_iload_n hx hb dX6_readsPart_80 rfl (lv_at hl 2 rfl) ?_
      refine va_calli (va_runV (As := [.int 54, .int y]) (rest := []) C.fix (met_X6_readsOwnPointer l g F adr i a q 54 y hw.1) (cw_X6_227 C.ts ⟨Nat.le_of_ble_eq_true rfl, Nat.le_of_ble_eq_true rfl⟩) (preV_of C (P := (MS g F adr i a q)) (MS.recv C hM) hS hM _) rfl rfl hl.1 rfl (lv_room (Nat.le_of_ble_eq_true rfl)) dX6_readsPart_81 ⟨Nat.le_of_ble_eq_true rfl, Nat.le_of_ble_eq_true rfl⟩) hS (fun _ _ h => h) (fun _ h => h) (fun r22 z_u t H locs ht _ hw1 hB _ _ hS => ?_)
      obtain ⟨i23, a24, q25⟩ := z_u
      have hM : MS g F adr i23 a24 q25 H := by rw [← ht]; exact hB
      have hw := hw.2 r22 i23 a24 q25 hw1
      exact W.zret (v := r22) hx hb hr hw.1 (fun t ht _ => ⟨⟨r22, (i23, a24, q25), rfl, hw.2, hM.at ht⟩, hS.F ht⟩) hS.2.2 dX6_readsPart_84
set_option maxHeartbeats 4000000 in
theorem met_X6_readsPart (l : Launch) (g : gG) (F : nM) (adr : Nat → Nat) (i : Nat → Int32) (a : Nat → Nat → Int32) (q : Nat → Nat) (x : Int32) (y : Int32) (hpre : pre_X6_readsPart i a q x y) : Met l yX6_readsPart (ws_ yX6_readsPart cX6_readsPart 4 (some .boolean)) rm_X6_readsPart (va_Pc [.ref (adr 0), .int x, .int y] (Pg g (MS g F adr i a q))) (va_Qi (fun r u => post_X6_readsPart i a q x y r u) (fun u t => MS g F adr u.1 u.2.1 u.2.2 t.heap) (Ag g)) 0 0 (Ag g) :=
  wk_X6_readsPart l g F adr i a q x y _ (pr_X6_readsPart i a q x y hpre)
end
