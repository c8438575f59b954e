set_option maxRecDepth 100000
theorem cw_X6_259 {R : Room} {s : State} {args : Array Value} (hts : ∀ w ∈ lw_all, w.before args s = true) {rm : Room} (hR : rm.frames + 1 ≤ R.frames ∧ 8 + (2 + 11) + rm.locals ≤ R.locals) : CallW R s args RX6 RX6 259 yX6_fault cX6_fault 2 (some .int) (ws_ yX6_fault cX6_fault 2 (some .int)) rm rm.cells rm.slots 0 := cwV 0 hts (lw_V q2610 q2612 qs53 q98 q2613) rfl rfl rfl (by decide +kernel) hR
theorem cw_X6_262 {R : Room} {s : State} {args : Array Value} (hts : ∀ w ∈ lw_all, w.before args s = true) {rm : Room} (hR : rm.frames + 1 ≤ R.frames ∧ 8 + (3 + 11) + rm.locals ≤ R.locals) : CallW R s args RX6 RX6 262 yX6_wrongOnes cX6_wrongOnes 3 (some .int) (ws_ yX6_wrongOnes cX6_wrongOnes 3 (some .int)) rm rm.cells rm.slots 0 := cwV 0 hts (lw_V q2625 q2627 qs55 q98 q2628) rfl rfl rfl (by decide +kernel) hR
section
variable {p : Program} {l : Launch} {e : Env} {s : State} {m : MethodId} {args : Array Value} {below : List Frame} {meth : Method} {c : Code} {g : gG} {F : nM} {adr : Nat → Nat}
abbrev rm_X6_addInn : Room := ({ frames := 5, cells := 0, slots := 0, locals := 320 } : Room)
set_option maxHeartbeats 4000000 in
theorem wkb_X6_addInn_78 (C : Cx p s m args meth c cX6_addInn 3 RX6 (some .int) g) (post : Int32 → MSt → Prop)  (x : Int32) (i : Nat → Int32) (a : Nat → Nat → Int32) (q : Nat → Nat)  (hw : wpb_X6_addInn_78 post  x i a q ) {H : Heap} {locs : List Loc} (hM : MS g F adr i a q H) (hS : va_S (Ag g) s.heap H locs) {ls : Array Slot} (hl : lv_has ls 3 [(0, .ref (adr 0))]) : W p l e rm_X6_addInn s m args below meth c H locs 0 0 (MQ below (va_Qi post (fun u t => MS g F adr u.1 u.2.1 u.2.2 t.heap) (Ag g)) args s 0 0 (Ag g)) (F0 m 78 ls []) := by
  have hx := C.1
  have hb := C.2.1
  have hown := C.2.2.2.1
  have hr := C.2.2.2.2.2.1
  have hlocks := C.2.2.2.2.2.2.1
  refine lv_aload_n hx hb dX6_addInn_78 rfl (lv_at hl 0 rfl) ?_
  refine lv_iconst (v := 2) hx hb dX6_addInn_79 (by decide) ?_
  refine va_calli (va_runV (As := [.int 2]) (rest := []) C.fix (met_X6_fails l g F adr i a q 2 ) (cw_X6_136 C.ts ⟨Nat.le_of_ble_eq_true rfl, Nat.le_of_ble_eq_true rfl⟩) (preV_of C (P := (MS g F adr i a q)) (MS.recv C hM) hS hM _) rfl rfl hl.1 rfl (lv_room (Nat.le_of_ble_eq_true rfl)) dX6_addInn_80 ⟨Nat.le_of_ble_eq_true rfl, Nat.le_of_ble_eq_true rfl⟩) hS (fun _ _ h => h) (fun _ h => h) (fun r27 z_u t H locs ht _ hw1 hB _ _ hS => ?_)
  obtain ⟨i28, a29, q30⟩ := z_u
  have hM : MS g F adr i28 a29 q30 H := by rw [← ht]; exact hB
  have hw := hw r27 i28 a29 q30 hw1
  exact W.iret (v := r27) hx hb hr (fun t ht _ => ⟨⟨r27, (i28, a29, q30), rfl, hw, hM.at ht⟩, hS.F ht⟩) hS.2.2 dX6_addInn_83
set_option maxHeartbeats 4000000 in
theorem wkb_X6_addInn_61 (C : Cx p s m args meth c cX6_addInn 3 RX6 (some .int) g) (post : Int32 → MSt → Prop)  (x : Int32) (i : Nat → Int32) (a : Nat → Nat → Int32) (q : Nat → Nat) (x2 : Int32) (hw : wpb_X6_addInn_61 post  x i a q x2) {H : Heap} {locs : List Loc} (hM : MS g F adr i a q H) (hS : va_S (Ag g) s.heap H locs) {ls : Array Slot} (hl : lv_has ls 3 [(0, .ref (adr 0)), (1, .int x), (2, .int x2)]) : W p l e rm_X6_addInn s m args below meth c H locs 0 0 (MQ below (va_Qi post (fun u t => MS g F adr u.1 u.2.1 u.2.2 t.heap) (Ag g)) args s 0 0 (Ag g)) (F0 m 61 ls []) := by
  have hx := C.1
  have hb := C.2.1
  have hown := C.2.2.2.1
  have hr := C.2.2.2.2.2.1
  have hlocks := C.2.2.2.2.2.2.1
  refine lv_iload_n hx hb dX6_addInn_61 rfl (lv_at hl 2 rfl) ?_
  refine lv_bipush (v := 12) hx hb dX6_addInn_62 (by decide) ?_
  refine lv_icmp_eq (tgt := 78) hx hb dX6_addInn_64 (by decide) (fun c9 => ?_) (fun c9 => ?_)
  · have hw := hw.1 c9
    exact wkb_X6_addInn_78 C post x  i a q hw hM hS (lv_sub hl [0] rfl)
  · have hw := hw.2 c9
    refine lv_aload_n hx hb dX6_addInn_67 rfl (lv_at hl 0 rfl) ?_
    refine lv_aload_n hx hb dX6_addInn_68 rfl (lv_at hl 0 rfl) ?_
    refine m_get C hM 1 (by decide) q2339 rfl rfl dX6_addInn_69 ?_
    refine va_calli (va_runV (As := [.ref (adr 1)]) (rest := []) C.fix (met_X6_isSound l g F adr i a q 1 (by decide) hw.1) (cw_X6_101 C.ts ⟨Nat.le_of_ble_eq_true rfl, Nat.le_of_ble_eq_true rfl⟩) (preV_of C (P := (MS g F adr i a q)) (MS.recv C hM) hS hM _) rfl rfl hl.1 rfl (lv_room (Nat.le_of_ble_eq_true rfl)) dX6_addInn_72 ⟨Nat.le_of_ble_eq_true rfl, Nat.le_of_ble_eq_true rfl⟩) hS (fun _ _ h => h) (fun _ h => h) (fun r10 z_u t H locs ht _ hw1 hB _ _ hS => ?_)
    obtain ⟨i11, a12, q13⟩ := z_u
    have hM : MS g F adr i11 a12 q13 H := by rw [← ht]; exact hB
    have hw := hw.2 r10 i11 a12 q13 hw1
    refine lv_if_ne (tgt := 84) hx hb dX6_addInn_75 (by decide) (fun c14 => ?_) (fun c14 => ?_)
    · have hw := hw.1 c14
      refine lv_aload_n hx hb dX6_addInn_84 rfl (lv_at hl 0 rfl) ?_
      refine va_callv (va_runV (As := []) (rest := []) C.fix (met_X6_remembers l g F adr i11 a12 q13  hw.1) (cw_X6_242 C.ts ⟨Nat.le_of_ble_eq_true rfl, Nat.le_of_ble_eq_true rfl⟩) (preV_of C (P := (MS g F adr i11 a12 q13)) (MS.recv C hM) hS hM _) rfl rfl hl.1 rfl (lv_room (Nat.le_of_ble_eq_true rfl)) dX6_addInn_85 ⟨Nat.le_of_ble_eq_true rfl, Nat.le_of_ble_eq_true rfl⟩) hS (fun _ _ h => h) (fun _ h => h) (fun z_u t H locs ht _ hw1 hB _ _ hS => ?_)
      obtain ⟨i16, a17, q18⟩ := z_u
      have hM : MS g F adr i16 a17 q18 H := by rw [← ht]; exact hB
      have hw := hw.2 i16 a17 q18 hw1
      refine lv_aload_n hx hb dX6_addInn_88 rfl (lv_at hl 0 rfl) ?_
      refine m_get C hM 1 (by decide) q2339 rfl rfl dX6_addInn_89 ?_
      refine lv_iload_n hx hb dX6_addInn_92 rfl (lv_at hl 2 rfl) ?_
      refine lv_iload_n hx hb dX6_addInn_93 rfl (lv_at hl 1 rfl) ?_
      refine va_callv (va_runS (As := [.ref (adr 1), .int x2, .int x]) (rest := []) C.fix (met_X6_builds l g F adr i16 a17 q18 1 (by decide) x2 x hw.1) (cw_X6_44 C.ts ⟨Nat.le_of_ble_eq_true rfl, Nat.le_of_ble_eq_true rfl⟩) (preS_of C (P := (MS g F adr i16 a17 q18)) hS hM _) rfl rfl hl.1 rfl (lv_room (Nat.le_of_ble_eq_true rfl)) dX6_addInn_94 ⟨Nat.le_of_ble_eq_true rfl, Nat.le_of_ble_eq_true rfl⟩) hS (fun _ _ h => h) (fun _ h => h) (fun z_u t H locs ht _ hw1 hB _ _ hS => ?_)
      obtain ⟨i20, a21, q22⟩ := z_u
      have hM : MS g F adr i20 a21 q22 H := by rw [← ht]; exact hB
      have hw := hw.2 i20 a21 q22 hw1
      refine lv_aload_n hx hb dX6_addInn_97 rfl (lv_at hl 0 rfl) ?_
      refine m_get C hM 1 (by decide) q2339 rfl rfl dX6_addInn_98 ?_
      refine va_callv (va_runS (As := [.ref (adr 1)]) (rest := []) C.fix (met_X6_rebuilds l g F adr i20 a21 q22 1 (by decide) ) (cw_X6_48 C.ts ⟨Nat.le_of_ble_eq_true rfl, Nat.le_of_ble_eq_true rfl⟩) (preS_of C (P := (MS g F adr i20 a21 q22)) hS hM _) rfl rfl hl.1 rfl (lv_room (Nat.le_of_ble_eq_true rfl)) dX6_addInn_101 ⟨Nat.le_of_ble_eq_true rfl, Nat.le_of_ble_eq_true rfl⟩) hS (fun _ _ h => h) (fun _ h => h) (fun z_u t H locs ht _ hw1 hB _ _ hS => ?_)
      obtain ⟨i24, a25, q26⟩ := z_u
      have hM : MS g F adr i24 a25 q26 H := by rw [← ht]; exact hB
      have hw := hw i24 a25 q26 hw1
      refine lv_iload_n hx hb dX6_addInn_104 rfl (lv_at hl 2 rfl) ?_
      exact W.iret (v := x2) hx hb hr (fun t ht _ => ⟨⟨x2, (i24, a25, q26), rfl, hw, hM.at ht⟩, hS.F ht⟩) hS.2.2 dX6_addInn_105
    · have hw := hw.2 c14
      exact wkb_X6_addInn_78 C post x  i11 a12 q13 hw hM hS (lv_sub hl [0] rfl)
set_option maxHeartbeats 4000000 in
theorem wkb_X6_addInn_37 (C : Cx p s m args meth c cX6_addInn 3 RX6 (some .int) g) (post : Int32 → MSt → Prop)  (x : Int32) : ∀ (n : Nat) (i : Nat → Int32) (a : Nat → Nat → Int32) (q : Nat → Nat) (x2 : Int32), wpb_X6_addInn_37 post  x n i a q x2 → ∀ (H : Heap) (locs : List Loc), MS g F adr i a q H → va_S (Ag g) s.heap H locs → ∀ ls : Array Slot, lv_has ls 3 [(0, .ref (adr 0)), (1, .int x), (2, .int x2)] → W p l e rm_X6_addInn s m args below meth c H locs 0 0 (MQ below (va_Qi post (fun u t => MS g F adr u.1 u.2.1 u.2.2 t.heap) (Ag g)) args s 0 0 (Ag g)) (F0 m 37 ls []) := by
  have hx := C.1
  have hb := C.2.1
  have hown := C.2.2.2.1
  have hr := C.2.2.2.2.2.1
  have hlocks := C.2.2.2.2.2.2.1
  intro n
  induction n with
  | zero =>
    intro i a q x2 hw
    exact hw.elim
  | succ n ih =>
    intro i a q x2 hw H locs hM hS ls hl
    refine lv_iload_n hx hb dX6_addInn_37 rfl (lv_at hl 2 rfl) ?_
    refine lv_bipush (v := 12) hx hb dX6_addInn_38 (by decide) ?_
    refine lv_icmp_ge (tgt := 61) hx hb dX6_addInn_40 (by decide) (fun c6 => ?_) (fun c6 => ?_)
    · have hw := hw.1 c6
      exact wkb_X6_addInn_61 C post x  i a q x2 hw hM hS (lv_sub hl [0, 1, 2] rfl)
    · have hw := hw.2 c6
      refine lv_aload_n hx hb dX6_addInn_43 rfl (lv_at hl 0 rfl) ?_
      refine m_get C hM 1 (by decide) q2339 rfl rfl dX6_addInn_44 ?_
      refine lv_iconst (v := 3) hx hb dX6_addInn_47 (by decide) ?_
      refine lv_iload_n hx hb dX6_addInn_48 rfl (lv_at hl 2 rfl) ?_
      refine lv_iadd hx hb dX6_addInn_49 ?_
      refine m_ald C hM (j := 1) rfl hw.1 dX6_addInn_50 ?_
      have hw := hw.2
      refine lv_iconst (v := 1) hx hb dX6_addInn_51 (by decide) ?_
      refine lv_icmp_ne (tgt := 61) hx hb dX6_addInn_52 (by decide) (fun c7 => ?_) (fun c7 => ?_)
      · have hw := hw.1 c7
        exact wkb_X6_addInn_61 C post x  i a q x2 hw hM hS (lv_sub hl [0, 1, 2] rfl)
      · have hw := hw.2 c7
        obtain ⟨z8, ez8⟩ : ∃ y : Int32, y = x2 + 1 := ⟨_, rfl⟩
        have hw := hw z8 ez8
        refine lv_iinc (v := z8) (lv' := [(2, .int z8), (0, .ref (adr 0)), (1, .int x)]) hx hb dX6_addInn_55 hl (k := 2) rfl (by rw [ez8]; rfl) (by decide) rfl (fun ls hl => ?_)
        refine lv_goto (tgt := 37) hx hb dX6_addInn_58 (by decide) ?_
        exact ih i a q z8 hw _ _ hM hS _ (lv_sub hl [1, 2, 0] rfl)
set_option maxHeartbeats 4000000 in
theorem wkb_X6_addInn_29 (C : Cx p s m args meth c cX6_addInn 3 RX6 (some .int) g) (post : Int32 → MSt → Prop)  (x : Int32) (i : Nat → Int32) (a : Nat → Nat → Int32) (q : Nat → Nat)  (hw : wpb_X6_addInn_29 post  x i a q ) {H : Heap} {locs : List Loc} (hM : MS g F adr i a q H) (hS : va_S (Ag g) s.heap H locs) {ls : Array Slot} (hl : lv_has ls 3 [(0, .ref (adr 0))]) : W p l e rm_X6_addInn s m args below meth c H locs 0 0 (MQ below (va_Qi post (fun u t => MS g F adr u.1 u.2.1 u.2.2 t.heap) (Ag g)) args s 0 0 (Ag g)) (F0 m 29 ls []) := by
  have hx := C.1
  have hb := C.2.1
  have hown := C.2.2.2.1
  have hr := C.2.2.2.2.2.1
  have hlocks := C.2.2.2.2.2.2.1
  refine lv_aload_n hx hb dX6_addInn_29 rfl (lv_at hl 0 rfl) ?_
  refine lv_iconst (v := 1) hx hb dX6_addInn_30 (by decide) ?_
  refine va_calli (va_runV (As := [.int 1]) (rest := []) C.fix (met_X6_fails l g F adr i a q 1 ) (cw_X6_136 C.ts ⟨Nat.le_of_ble_eq_true rfl, Nat.le_of_ble_eq_true rfl⟩) (preV_of C (P := (MS g F adr i a q)) (MS.recv C hM) hS hM _) rfl rfl hl.1 rfl (lv_room (Nat.le_of_ble_eq_true rfl)) dX6_addInn_31 ⟨Nat.le_of_ble_eq_true rfl, Nat.le_of_ble_eq_true rfl⟩) hS (fun _ _ h => h) (fun _ h => h) (fun r31 z_u t H locs ht _ hw1 hB _ _ hS => ?_)
  obtain ⟨i32, a33, q34⟩ := z_u
  have hM : MS g F adr i32 a33 q34 H := by rw [← ht]; exact hB
  have hw := hw r31 i32 a33 q34 hw1
  exact W.iret (v := r31) hx hb hr (fun t ht _ => ⟨⟨r31, (i32, a33, q34), rfl, hw, hM.at ht⟩, hS.F ht⟩) hS.2.2 dX6_addInn_34
set_option maxHeartbeats 4000000 in
theorem wk_X6_addInn (l : Launch) (g : gG) (F : nM) (adr : Nat → Nat) (i : Nat → Int32) (a : Nat → Nat → Int32) (q : Nat → Nat) (x : Int32) (post : Int32 → MSt → Prop) (hw : wp_X6_addInn post i a q x) : Met l yX6_addInn (ws_ yX6_addInn cX6_addInn 3 (some .int)) rm_X6_addInn (va_Pc [.ref (adr 0), .int x] (Pg g (MS g F adr i a q))) (va_Qi post (fun u t => MS g F adr u.1 u.2.1 u.2.2 t.heap) (Ag g)) 0 0 (Ag g) := by
  refine Met.ofW (cc := cX6_addInn) (maxL := 3) (ret := (some .int)) (by decide) rfl ?_
  intro p e s m args below meth c s₁ B hml hv
  obtain ⟨rfl, hG, hM⟩ := hv
  have C : Cx p s m _ meth c cX6_addInn 3 RX6 (some .int) g := Cx.of B hml hG
  have hx := C.1
  have hb := C.2.1
  have hown := C.2.2.2.1
  have hr := C.2.2.2.2.2.1
  have hlocks := C.2.2.2.2.2.2.1
  have hS : va_S (Ag g) s.heap s.heap [] := va_S.rf
  refine lv_start ([.ref (adr 0), .int x] : List Value) (L := [(0, .ref (adr 0)), (1, .int x)]) (Nat.le_of_ble_eq_true rfl) rfl (fun ls hl => ?_)
  refine lv_aload_n hx hb dX6_addInn_0 rfl (lv_at hl 0 rfl) ?_
  refine lv_iconst (v := 0) hx hb dX6_addInn_1 (by decide) ?_
  refine m_put C hM hS 0 rfl q2338 rfl rfl rfl dX6_addInn_2 (fun i1 H locs ei1 hM hS => ?_)
  have hw := hw i1 ei1
  refine lv_iload_n hx hb dX6_addInn_5 rfl (lv_at hl 1 rfl) ?_
  refine lv_i2l hx hb dX6_addInn_6 rfl ?_
  refine lv_lconst (v := 0) hx hb dX6_addInn_7 (by decide) ?_
  refine lv_ldc2 (v := 999) hx hb hown (C.ts _ q2529) dX6_addInn_8 ?_
  refine vp_callSi (va_runS (As := [.long x.toInt64, .long 0, .long 999]) (rest := []) C.fix (met_X6_isIn l g  x.toInt64 0 999 ) (cw_X6_61 C.ts ⟨Nat.le_of_ble_eq_true rfl, Nat.le_of_ble_eq_true rfl⟩) (preS_of C (P := (fun _ => True)) hS trivial _) rfl rfl hl.1 rfl (lv_room (Nat.le_of_ble_eq_true rfl)) dX6_addInn_11 ⟨Nat.le_of_ble_eq_true rfl, Nat.le_of_ble_eq_true rfl⟩).run (fun r2 er2 => ?_)
  have hw := hw r2 er2
  refine lv_if_eq (tgt := 29) hx hb dX6_addInn_14 (by decide) (fun c3 => ?_) (fun c3 => ?_)
  · have hw := hw.1 c3
    exact wkb_X6_addInn_29 C post x  i1 a q hw hM hS (lv_sub hl [0] rfl)
  · have hw := hw.2 c3
    refine lv_aload_n hx hb dX6_addInn_17 rfl (lv_at hl 0 rfl) ?_
    refine m_get C hM 1 (by decide) q2339 rfl rfl dX6_addInn_18 ?_
    refine lv_iload_n hx hb dX6_addInn_21 rfl (lv_at hl 1 rfl) ?_
    refine vp_callSi (va_runS (As := [.ref (adr 1), .int x]) (rest := []) C.fix (met_X6_atMile l g F adr i1 a q 1 (by decide) x ) (cw_X6_196 C.ts ⟨Nat.le_of_ble_eq_true rfl, Nat.le_of_ble_eq_true rfl⟩) (preS_of C (P := (MS g F adr i1 a q)) hS hM _) rfl rfl hl.1 rfl (lv_room (Nat.le_of_ble_eq_true rfl)) dX6_addInn_22 ⟨Nat.le_of_ble_eq_true rfl, Nat.le_of_ble_eq_true rfl⟩).run (fun r4 er4 => ?_)
    have hw := hw r4 er4
    refine lv_iconst (v := (-1)) hx hb dX6_addInn_25 (by decide) ?_
    refine lv_icmp_eq (tgt := 35) hx hb dX6_addInn_26 (by decide) (fun c5 => ?_) (fun c5 => ?_)
    · have hw := hw.1 c5
      refine lv_iconst (v := 0) hx hb dX6_addInn_35 (by decide) ?_
      refine lv_istore_n (lv' := [(2, .int 0), (0, .ref (adr 0)), (1, .int x)]) hx hb dX6_addInn_36 rfl hl (by decide) rfl (fun ls hl => ?_)
      obtain ⟨n, hw⟩ := hw
      exact wkb_X6_addInn_37 C post x  n i1 a q 0 hw _ _ hM hS _ (lv_sub hl [1, 2, 0] rfl)
    · have hw := hw.2 c5
      exact wkb_X6_addInn_29 C post x  i1 a q hw hM hS (lv_sub hl [0] rfl)
set_option maxHeartbeats 4000000 in
theorem met_X6_addInn (l : Launch) (g : gG) (F : nM) (adr : Nat → Nat) (i : Nat → Int32) (a : Nat → Nat → Int32) (q : Nat → Nat) (x : Int32) (hpre : pre_X6_addInn i a q x) : Met l yX6_addInn (ws_ yX6_addInn cX6_addInn 3 (some .int)) rm_X6_addInn (va_Pc [.ref (adr 0), .int x] (Pg g (MS g F adr i a q))) (va_Qi (fun r u => post_X6_addInn i a q x r u) (fun u t => MS g F adr u.1 u.2.1 u.2.2 t.heap) (Ag g)) 0 0 (Ag g) :=
  wk_X6_addInn l g F adr i a q x _ (pr_X6_addInn i a q x hpre)

abbrev rm_X6_removeInn : Room := ({ frames := 5, cells := 0, slots := 0, locals := 320 } : Room)
set_option maxHeartbeats 4000000 in
theorem wk_X6_removeInn (l : Launch) (g : gG) (F : nM) (adr : Nat → Nat) (i : Nat → Int32) (a : Nat → Nat → Int32) (q : Nat → Nat) (x : Int32) (post : Int32 → MSt → Prop) (hw : wp_X6_removeInn post i a q x) : Met l yX6_removeInn (ws_ yX6_removeInn cX6_removeInn 2 (some .int)) rm_X6_removeInn (va_Pc [.ref (adr 0), .int x] (Pg g (MS g F adr i a q))) (va_Qi post (fun u t => MS g F adr u.1 u.2.1 u.2.2 t.heap) (Ag g)) 0 0 (Ag g) := by
  refine Met.ofW (cc := cX6_removeInn) (maxL := 2) (ret := (some .int)) (by decide) rfl ?_
  intro p e s m args below meth c s₁ B hml hv
  obtain ⟨rfl, hG, hM⟩ := hv
  have C : Cx p s m _ meth c cX6_removeInn 2 RX6 (some .int) g := Cx.of B hml hG
  have hx := C.1
  have hb := C.2.1
  have hown := C.2.2.2.1
  have hr := C.2.2.2.2.2.1
  have hlocks := C.2.2.2.2.2.2.1
  have hS : va_S (Ag g) s.heap s.heap [] := va_S.rf
  refine lv_start ([.ref (adr 0), .int x] : List Value) (L := [(0, .ref (adr 0)), (1, .int x)]) (Nat.le_of_ble_eq_true rfl) rfl (fun ls hl => ?_)
  refine lv_aload_n hx hb dX6_removeInn_0 rfl (lv_at hl 0 rfl) ?_
  refine lv_iconst (v := 0) hx hb dX6_removeInn_1 (by decide) ?_
  refine m_put C hM hS 0 rfl q2338 rfl rfl rfl dX6_removeInn_2 (fun i1 H locs ei1 hM hS => ?_)
  have hw := hw i1 ei1
  refine lv_aload_n hx hb dX6_removeInn_5 rfl (lv_at hl 0 rfl) ?_
  refine m_get C hM 1 (by decide) q2339 rfl rfl dX6_removeInn_6 ?_
  refine lv_iload_n hx hb dX6_removeInn_9 rfl (lv_at hl 1 rfl) ?_
  refine vp_callSi (va_runS (As := [.ref (adr 1), .int x]) (rest := []) C.fix (met_X6_hasInnAt l g F adr i1 a q 1 (by decide) x ) (cw_X6_85 C.ts ⟨Nat.le_of_ble_eq_true rfl, Nat.le_of_ble_eq_true rfl⟩) (preS_of C (P := (MS g F adr i1 a q)) hS hM _) rfl rfl hl.1 rfl (lv_room (Nat.le_of_ble_eq_true rfl)) dX6_removeInn_10 ⟨Nat.le_of_ble_eq_true rfl, Nat.le_of_ble_eq_true rfl⟩).run (fun r2 er2 => ?_)
  have hw := hw r2 er2
  refine lv_if_ne (tgt := 22) hx hb dX6_removeInn_13 (by decide) (fun c3 => ?_) (fun c3 => ?_)
  · have hw := hw.1 c3
    refine lv_aload_n hx hb dX6_removeInn_22 rfl (lv_at hl 0 rfl) ?_
    refine lv_aload_n hx hb dX6_removeInn_23 rfl (lv_at hl 0 rfl) ?_
    refine m_get C hM 1 (by decide) q2339 rfl rfl dX6_removeInn_24 ?_
    refine va_calli (va_runV (As := [.ref (adr 1)]) (rest := []) C.fix (met_X6_isSound l g F adr i1 a q 1 (by decide) hw.1) (cw_X6_101 C.ts ⟨Nat.le_of_ble_eq_true rfl, Nat.le_of_ble_eq_true rfl⟩) (preV_of C (P := (MS g F adr i1 a q)) (MS.recv C hM) hS hM _) rfl rfl hl.1 rfl (lv_room (Nat.le_of_ble_eq_true rfl)) dX6_removeInn_27 ⟨Nat.le_of_ble_eq_true rfl, Nat.le_of_ble_eq_true rfl⟩) hS (fun _ _ h => h) (fun _ h => h) (fun r4 z_u t H locs ht _ hw1 hB _ _ hS => ?_)
    obtain ⟨i5, a6, q7⟩ := z_u
    have hM : MS g F adr i5 a6 q7 H := by rw [← ht]; exact hB
    have hw := hw.2 r4 i5 a6 q7 hw1
    refine lv_if_ne (tgt := 39) hx hb dX6_removeInn_30 (by decide) (fun c8 => ?_) (fun c8 => ?_)
    · have hw := hw.1 c8
      refine lv_aload_n hx hb dX6_removeInn_39 rfl (lv_at hl 0 rfl) ?_
      refine va_callv (va_runV (As := []) (rest := []) C.fix (met_X6_remembers l g F adr i5 a6 q7  hw.1) (cw_X6_242 C.ts ⟨Nat.le_of_ble_eq_true rfl, Nat.le_of_ble_eq_true rfl⟩) (preV_of C (P := (MS g F adr i5 a6 q7)) (MS.recv C hM) hS hM _) rfl rfl hl.1 rfl (lv_room (Nat.le_of_ble_eq_true rfl)) dX6_removeInn_40 ⟨Nat.le_of_ble_eq_true rfl, Nat.le_of_ble_eq_true rfl⟩) hS (fun _ _ h => h) (fun _ h => h) (fun z_u t H locs ht _ hw1 hB _ _ hS => ?_)
      obtain ⟨i10, a11, q12⟩ := z_u
      have hM : MS g F adr i10 a11 q12 H := by rw [← ht]; exact hB
      have hw := hw.2 i10 a11 q12 hw1
      refine lv_aload_n hx hb dX6_removeInn_43 rfl (lv_at hl 0 rfl) ?_
      refine m_get C hM 1 (by decide) q2339 rfl rfl dX6_removeInn_44 ?_
      refine lv_iconst (v := 3) hx hb dX6_removeInn_47 (by decide) ?_
      refine lv_iload_n hx hb dX6_removeInn_48 rfl (lv_at hl 1 rfl) ?_
      refine lv_iadd hx hb dX6_removeInn_49 ?_
      refine lv_iconst (v := 0) hx hb dX6_removeInn_50 (by decide) ?_
      refine m_ast C hM hS (j := 1) rfl hw.1 dX6_removeInn_51 (fun a13 H locs ea13 hM hS => ?_)
      have hw := hw.2 a13 ea13
      refine lv_aload_n hx hb dX6_removeInn_52 rfl (lv_at hl 0 rfl) ?_
      refine m_get C hM 1 (by decide) q2339 rfl rfl dX6_removeInn_53 ?_
      refine va_callv (va_runS (As := [.ref (adr 1)]) (rest := []) C.fix (met_X6_rebuilds l g F adr i10 a13 q12 1 (by decide) ) (cw_X6_48 C.ts ⟨Nat.le_of_ble_eq_true rfl, Nat.le_of_ble_eq_true rfl⟩) (preS_of C (P := (MS g F adr i10 a13 q12)) hS hM _) rfl rfl hl.1 rfl (lv_room (Nat.le_of_ble_eq_true rfl)) dX6_removeInn_56 ⟨Nat.le_of_ble_eq_true rfl, Nat.le_of_ble_eq_true rfl⟩) hS (fun _ _ h => h) (fun _ h => h) (fun z_u t H locs ht _ hw1 hB _ _ hS => ?_)
      obtain ⟨i15, a16, q17⟩ := z_u
      have hM : MS g F adr i15 a16 q17 H := by rw [← ht]; exact hB
      have hw := hw i15 a16 q17 hw1
      refine lv_aload_n hx hb dX6_removeInn_59 rfl (lv_at hl 0 rfl) ?_
      refine m_get C hM 1 (by decide) q2339 rfl rfl dX6_removeInn_60 ?_
      refine lv_bipush (v := 39) hx hb dX6_removeInn_63 (by decide) ?_
      refine lv_iload_n hx hb dX6_removeInn_65 rfl (lv_at hl 1 rfl) ?_
      refine lv_iadd hx hb dX6_removeInn_66 ?_
      refine m_ald C hM (j := 1) rfl hw.1 dX6_removeInn_67 ?_
      have hw := hw.2
      exact W.iret (v := (a16 1 (39 + x).toNatClampNeg)) hx hb hr (fun t ht _ => ⟨⟨(a16 1 (39 + x).toNatClampNeg), (i15, a16, q17), rfl, hw, hM.at ht⟩, hS.F ht⟩) hS.2.2 dX6_removeInn_68
    · have hw := hw.2 c8
      refine lv_aload_n hx hb dX6_removeInn_33 rfl (lv_at hl 0 rfl) ?_
      refine lv_iconst (v := 2) hx hb dX6_removeInn_34 (by decide) ?_
      refine va_calli (va_runV (As := [.int 2]) (rest := []) C.fix (met_X6_fails l g F adr i5 a6 q7 2 ) (cw_X6_136 C.ts ⟨Nat.le_of_ble_eq_true rfl, Nat.le_of_ble_eq_true rfl⟩) (preV_of C (P := (MS g F adr i5 a6 q7)) (MS.recv C hM) hS hM _) rfl rfl hl.1 rfl (lv_room (Nat.le_of_ble_eq_true rfl)) dX6_removeInn_35 ⟨Nat.le_of_ble_eq_true rfl, Nat.le_of_ble_eq_true rfl⟩) hS (fun _ _ h => h) (fun _ h => h) (fun r18 z_u t H locs ht _ hw1 hB _ _ hS => ?_)
      obtain ⟨i19, a20, q21⟩ := z_u
      have hM : MS g F adr i19 a20 q21 H := by rw [← ht]; exact hB
      have hw := hw r18 i19 a20 q21 hw1
      exact W.iret (v := r18) hx hb hr (fun t ht _ => ⟨⟨r18, (i19, a20, q21), rfl, hw, hM.at ht⟩, hS.F ht⟩) hS.2.2 dX6_removeInn_38
  · have hw := hw.2 c3
    refine lv_aload_n hx hb dX6_removeInn_16 rfl (lv_at hl 0 rfl) ?_
    refine lv_iconst (v := 1) hx hb dX6_removeInn_17 (by decide) ?_
    refine va_calli (va_runV (As := [.int 1]) (rest := []) C.fix (met_X6_fails l g F adr i1 a q 1 ) (cw_X6_136 C.ts ⟨Nat.le_of_ble_eq_true rfl, Nat.le_of_ble_eq_true rfl⟩) (preV_of C (P := (MS g F adr i1 a q)) (MS.recv C hM) hS hM _) rfl rfl hl.1 rfl (lv_room (Nat.le_of_ble_eq_true rfl)) dX6_removeInn_18 ⟨Nat.le_of_ble_eq_true rfl, Nat.le_of_ble_eq_true rfl⟩) hS (fun _ _ h => h) (fun _ h => h) (fun r22 z_u t H locs ht _ hw1 hB _ _ hS => ?_)
    obtain ⟨i23, a24, q25⟩ := z_u
    have hM : MS g F adr i23 a24 q25 H := by rw [← ht]; exact hB
    have hw := hw r22 i23 a24 q25 hw1
    exact W.iret (v := r22) hx hb hr (fun t ht _ => ⟨⟨r22, (i23, a24, q25), rfl, hw, hM.at ht⟩, hS.F ht⟩) hS.2.2 dX6_removeInn_21
set_option maxHeartbeats 4000000 in
theorem met_X6_removeInn (l : Launch) (g : gG) (F : nM) (adr : Nat → Nat) (i : Nat → Int32) (a : Nat → Nat → Int32) (q : Nat → Nat) (x : Int32) (hpre : pre_X6_removeInn i a q x) : Met l yX6_removeInn (ws_ yX6_removeInn cX6_removeInn 2 (some .int)) rm_X6_removeInn (va_Pc [.ref (adr 0), .int x] (Pg g (MS g F adr i a q))) (va_Qi (fun r u => post_X6_removeInn i a q x r u) (fun u t => MS g F adr u.1 u.2.1 u.2.2 t.heap) (Ag g)) 0 0 (Ag g) :=
  wk_X6_removeInn l g F adr i a q x _ (pr_X6_removeInn i a q x hpre)

abbrev rm_X6_repair : Room := ({ frames := 6, cells := 0, slots := 0, locals := 384 } : Room)
set_option maxHeartbeats 4000000 in
theorem wk_X6_repair (l : Launch) (g : gG) (F : nM) (adr : Nat → Nat) (i : Nat → Int32) (a : Nat → Nat → Int32) (q : Nat → Nat)  (post : Int32 → MSt → Prop) (hw : wp_X6_repair post i a q ) : Met l yX6_repair (ws_ yX6_repair cX6_repair 2 (some .int)) rm_X6_repair (va_Pc [.ref (adr 0)] (Pg g (MS g F adr i a q))) (va_Qi post (fun u t => MS g F adr u.1 u.2.1 u.2.2 t.heap) (Ag g)) 0 0 (Ag g) := by
  refine Met.ofW (cc := cX6_repair) (maxL := 2) (ret := (some .int)) (by decide) rfl ?_
  intro p e s m args below meth c s₁ B hml hv
  obtain ⟨rfl, hG, hM⟩ := hv
  have C : Cx p s m _ meth c cX6_repair 2 RX6 (some .int) g := Cx.of B hml hG
  have hx := C.1
  have hb := C.2.1
  have hown := C.2.2.2.1
  have hr := C.2.2.2.2.2.1
  have hlocks := C.2.2.2.2.2.2.1
  have hS : va_S (Ag g) s.heap s.heap [] := va_S.rf
  refine lv_start ([.ref (adr 0)] : List Value) (L := [(0, .ref (adr 0))]) (Nat.le_of_ble_eq_true rfl) rfl (fun ls hl => ?_)
  refine lv_aload_n hx hb dX6_repair_0 rfl (lv_at hl 0 rfl) ?_
  refine lv_iconst (v := 0) hx hb dX6_repair_1 (by decide) ?_
  refine m_put C hM hS 0 rfl q2338 rfl rfl rfl dX6_repair_2 (fun i1 H locs ei1 hM hS => ?_)
  have hw := hw i1 ei1
  refine lv_aload_n hx hb dX6_repair_5 rfl (lv_at hl 0 rfl) ?_
  refine va_calli (va_runV (As := []) (rest := []) C.fix (met_X6_fault l g F adr i1 a q  hw.1) (cw_X6_259 C.ts ⟨Nat.le_of_ble_eq_true rfl, Nat.le_of_ble_eq_true rfl⟩) (preV_of C (P := (MS g F adr i1 a q)) (MS.recv C hM) hS hM _) rfl rfl hl.1 rfl (lv_room (Nat.le_of_ble_eq_true rfl)) dX6_repair_6 ⟨Nat.le_of_ble_eq_true rfl, Nat.le_of_ble_eq_true rfl⟩) hS (fun _ _ h => h) (fun _ h => h) (fun r2 z_u t H locs ht _ hw1 hB _ _ hS => ?_)
  obtain ⟨i3, a4, q5⟩ := z_u
  have hM : MS g F adr i3 a4 q5 H := by rw [← ht]; exact hB
  have hw := hw.2 r2 i3 a4 q5 hw1
  refine lv_istore_n (lv' := [(1, .int r2), (0, .ref (adr 0))]) hx hb dX6_repair_9 rfl hl (by decide) rfl (fun ls hl => ?_)
  refine lv_iload_n hx hb dX6_repair_10 rfl (lv_at hl 0 rfl) ?_
  refine lv_iconst (v := (-1)) hx hb dX6_repair_11 (by decide) ?_
  refine lv_icmp_ne (tgt := 21) hx hb dX6_repair_12 (by decide) (fun c6 => ?_) (fun c6 => ?_)
  · have hw := hw.1 c6
    refine lv_aload_n hx hb dX6_repair_21 rfl (lv_at hl 1 rfl) ?_
    refine va_callv (va_runV (As := []) (rest := []) C.fix (met_X6_remembers l g F adr i3 a4 q5  hw.1) (cw_X6_242 C.ts ⟨Nat.le_of_ble_eq_true rfl, Nat.le_of_ble_eq_true rfl⟩) (preV_of C (P := (MS g F adr i3 a4 q5)) (MS.recv C hM) hS hM _) rfl rfl hl.1 rfl (lv_room (Nat.le_of_ble_eq_true rfl)) dX6_repair_22 ⟨Nat.le_of_ble_eq_true rfl, Nat.le_of_ble_eq_true rfl⟩) hS (fun _ _ h => h) (fun _ h => h) (fun z_u t H locs ht _ hw1 hB _ _ hS => ?_)
    obtain ⟨i8, a9, q10⟩ := z_u
    have hM : MS g F adr i8 a9 q10 H := by rw [← ht]; exact hB
    have hw := hw.2 i8 a9 q10 hw1
    refine lv_aload_n hx hb dX6_repair_25 rfl (lv_at hl 1 rfl) ?_
    refine m_get C hM 1 (by decide) q2339 rfl rfl dX6_repair_26 ?_
    refine lv_iload_n hx hb dX6_repair_29 rfl (lv_at hl 0 rfl) ?_
    refine lv_aload_n hx hb dX6_repair_30 rfl (lv_at hl 1 rfl) ?_
    refine m_get C hM 4 (by decide) q2342 rfl rfl dX6_repair_31 ?_
    refine lv_iload_n hx hb dX6_repair_34 rfl (lv_at hl 0 rfl) ?_
    refine m_ald C hM (j := 4) rfl hw.1 dX6_repair_35 ?_
    have hw := hw.2
    refine m_ast C hM hS (j := 1) rfl hw.1 dX6_repair_36 (fun a11 H locs ea11 hM hS => ?_)
    have hw := hw.2 a11 ea11
    refine lv_aload_n hx hb dX6_repair_37 rfl (lv_at hl 1 rfl) ?_
    refine m_get C hM 1 (by decide) q2339 rfl rfl dX6_repair_38 ?_
    refine lv_iload_n hx hb dX6_repair_41 rfl (lv_at hl 0 rfl) ?_
    refine m_ald C hM (j := 1) rfl hw.1 dX6_repair_42 ?_
    have hw := hw.2
    exact W.iret (v := (a11 1 r2.toNatClampNeg)) hx hb hr (fun t ht _ => ⟨⟨(a11 1 r2.toNatClampNeg), (i8, a11, q10), rfl, hw, hM.at ht⟩, hS.F ht⟩) hS.2.2 dX6_repair_43
  · have hw := hw.2 c6
    refine lv_aload_n hx hb dX6_repair_15 rfl (lv_at hl 1 rfl) ?_
    refine lv_iconst (v := 1) hx hb dX6_repair_16 (by decide) ?_
    refine va_calli (va_runV (As := [.int 1]) (rest := []) C.fix (met_X6_fails l g F adr i3 a4 q5 1 ) (cw_X6_136 C.ts ⟨Nat.le_of_ble_eq_true rfl, Nat.le_of_ble_eq_true rfl⟩) (preV_of C (P := (MS g F adr i3 a4 q5)) (MS.recv C hM) hS hM _) rfl rfl hl.1 rfl (lv_room (Nat.le_of_ble_eq_true rfl)) dX6_repair_17 ⟨Nat.le_of_ble_eq_true rfl, Nat.le_of_ble_eq_true rfl⟩) hS (fun _ _ h => h) (fun _ h => h) (fun r12 z_u t H locs ht _ hw1 hB _ _ hS => ?_)
    obtain ⟨i13, a14, q15⟩ := z_u
    have hM : MS g F adr i13 a14 q15 H := by rw [← ht]; exact hB
    have hw := hw r12 i13 a14 q15 hw1
    exact W.iret (v := r12) hx hb hr (fun t ht _ => ⟨⟨r12, (i13, a14, q15), rfl, hw, hM.at ht⟩, hS.F ht⟩) hS.2.2 dX6_repair_20
set_option maxHeartbeats 4000000 in
theorem met_X6_repair (l : Launch) (g : gG) (F : nM) (adr : Nat → Nat) (i : Nat → Int32) (a : Nat → Nat → Int32) (q : Nat → Nat)  (hpre : pre_X6_repair i a q ) : Met l yX6_repair (ws_ yX6_repair cX6_repair 2 (some .int)) rm_X6_repair (va_Pc [.ref (adr 0)] (Pg g (MS g F adr i a q))) (va_Qi (fun r u => post_X6_repair i a q  r u) (fun u t => MS g F adr u.1 u.2.1 u.2.2 t.heap) (Ag g)) 0 0 (Ag g) :=
  wk_X6_repair l g F adr i a q  _ (pr_X6_repair i a q  hpre)

abbrev rm_X6_rebuild : Room := ({ frames := 5, cells := 0, slots := 0, locals := 320 } : Room)
set_option maxHeartbeats 4000000 in
theorem wk_X6_rebuild (l : Launch) (g : gG) (F : nM) (adr : Nat → Nat) (i : Nat → Int32) (a : Nat → Nat → Int32) (q : Nat → Nat)  (post : Int32 → MSt → Prop) (hw : wp_X6_rebuild post i a q ) : Met l yX6_rebuild (ws_ yX6_rebuild cX6_rebuild 2 (some .int)) rm_X6_rebuild (va_Pc [.ref (adr 0)] (Pg g (MS g F adr i a q))) (va_Qi post (fun u t => MS g F adr u.1 u.2.1 u.2.2 t.heap) (Ag g)) 0 0 (Ag g) := by
  refine Met.ofW (cc := cX6_rebuild) (maxL := 2) (ret := (some .int)) (by decide) rfl ?_
  intro p e s m args below meth c s₁ B hml hv
  obtain ⟨rfl, hG, hM⟩ := hv
  have C : Cx p s m _ meth c cX6_rebuild 2 RX6 (some .int) g := Cx.of B hml hG
  have hx := C.1
  have hb := C.2.1
  have hown := C.2.2.2.1
  have hr := C.2.2.2.2.2.1
  have hlocks := C.2.2.2.2.2.2.1
  have hS : va_S (Ag g) s.heap s.heap [] := va_S.rf
  refine lv_start ([.ref (adr 0)] : List Value) (L := [(0, .ref (adr 0))]) (Nat.le_of_ble_eq_true rfl) rfl (fun ls hl => ?_)
  refine lv_aload_n hx hb dX6_rebuild_0 rfl (lv_at hl 0 rfl) ?_
  refine lv_iconst (v := 0) hx hb dX6_rebuild_1 (by decide) ?_
  refine m_put C hM hS 0 rfl q2338 rfl rfl rfl dX6_rebuild_2 (fun i1 H locs ei1 hM hS => ?_)
  have hw := hw i1 ei1
  refine lv_aload_n hx hb dX6_rebuild_5 rfl (lv_at hl 0 rfl) ?_
  refine va_calli (va_runV (As := []) (rest := []) C.fix (met_X6_wrongOnes l g F adr i1 a q  ) (cw_X6_262 C.ts ⟨Nat.le_of_ble_eq_true rfl, Nat.le_of_ble_eq_true rfl⟩) (preV_of C (P := (MS g F adr i1 a q)) (MS.recv C hM) hS hM _) rfl rfl hl.1 rfl (lv_room (Nat.le_of_ble_eq_true rfl)) dX6_rebuild_6 ⟨Nat.le_of_ble_eq_true rfl, Nat.le_of_ble_eq_true rfl⟩) hS (fun _ _ h => h) (fun _ h => h) (fun r2 z_u t H locs ht _ hw1 hB _ _ hS => ?_)
  obtain ⟨i3, a4, q5⟩ := z_u
  have hM : MS g F adr i3 a4 q5 H := by rw [← ht]; exact hB
  have hw := hw r2 i3 a4 q5 hw1
  refine lv_istore_n (lv' := [(1, .int r2), (0, .ref (adr 0))]) hx hb dX6_rebuild_9 rfl hl (by decide) rfl (fun ls hl => ?_)
  refine lv_aload_n hx hb dX6_rebuild_10 rfl (lv_at hl 1 rfl) ?_
  refine va_callv (va_runV (As := []) (rest := []) C.fix (met_X6_remembers l g F adr i3 a4 q5  hw.1) (cw_X6_242 C.ts ⟨Nat.le_of_ble_eq_true rfl, Nat.le_of_ble_eq_true rfl⟩) (preV_of C (P := (MS g F adr i3 a4 q5)) (MS.recv C hM) hS hM _) rfl rfl hl.1 rfl (lv_room (Nat.le_of_ble_eq_true rfl)) dX6_rebuild_11 ⟨Nat.le_of_ble_eq_true rfl, Nat.le_of_ble_eq_true rfl⟩) hS (fun _ _ h => h) (fun _ h => h) (fun z_u t H locs ht _ hw1 hB _ _ hS => ?_)
  obtain ⟨i7, a8, q9⟩ := z_u
  have hM : MS g F adr i7 a8 q9 H := by rw [← ht]; exact hB
  have hw := hw.2 i7 a8 q9 hw1
  refine lv_aload_n hx hb dX6_rebuild_14 rfl (lv_at hl 1 rfl) ?_
  refine m_get C hM 1 (by decide) q2339 rfl rfl dX6_rebuild_15 ?_
  refine va_callv (va_runS (As := [.ref (adr 1)]) (rest := []) C.fix (met_X6_rebuilds l g F adr i7 a8 q9 1 (by decide) ) (cw_X6_48 C.ts ⟨Nat.le_of_ble_eq_true rfl, Nat.le_of_ble_eq_true rfl⟩) (preS_of C (P := (MS g F adr i7 a8 q9)) hS hM _) rfl rfl hl.1 rfl (lv_room (Nat.le_of_ble_eq_true rfl)) dX6_rebuild_18 ⟨Nat.le_of_ble_eq_true rfl, Nat.le_of_ble_eq_true rfl⟩) hS (fun _ _ h => h) (fun _ h => h) (fun z_u t H locs ht _ hw1 hB _ _ hS => ?_)
  obtain ⟨i11, a12, q13⟩ := z_u
  have hM : MS g F adr i11 a12 q13 H := by rw [← ht]; exact hB
  have hw := hw i11 a12 q13 hw1
  refine lv_iload_n hx hb dX6_rebuild_21 rfl (lv_at hl 0 rfl) ?_
  exact W.iret (v := r2) hx hb hr (fun t ht _ => ⟨⟨r2, (i11, a12, q13), rfl, hw, hM.at ht⟩, hS.F ht⟩) hS.2.2 dX6_rebuild_22
set_option maxHeartbeats 4000000 in
theorem met_X6_rebuild (l : Launch) (g : gG) (F : nM) (adr : Nat → Nat) (i : Nat → Int32) (a : Nat → Nat → Int32) (q : Nat → Nat)  (hpre : pre_X6_rebuild i a q ) : Met l yX6_rebuild (ws_ yX6_rebuild cX6_rebuild 2 (some .int)) rm_X6_rebuild (va_Pc [.ref (adr 0)] (Pg g (MS g F adr i a q))) (va_Qi (fun r u => post_X6_rebuild i a q  r u) (fun u t => MS g F adr u.1 u.2.1 u.2.2 t.heap) (Ag g)) 0 0 (Ag g) :=
  wk_X6_rebuild l g F adr i a q  _ (pr_X6_rebuild i a q  hpre)

abbrev rm_X6_leaveLetters : Room := ({ frames := 3, cells := 0, slots := 0, locals := 192 } : Room)
set_option maxHeartbeats 4000000 in
theorem wk_X6_leaveLetters (l : Launch) (g : gG) (F : nM) (adr : Nat → Nat) (i : Nat → Int32) (a : Nat → Nat → Int32) (q : Nat → Nat) (x : Int32) (y : Int32) (post : Int32 → MSt → Prop) (hw : wp_X6_leaveLetters post i a q x y) : Met l yX6_leaveLetters (ws_ yX6_leaveLetters cX6_leaveLetters 3 (some .int)) rm_X6_leaveLetters (va_Pc [.ref (adr 0), .int x, .int y] (Pg g (MS g F adr i a q))) (va_Qi post (fun u t => MS g F adr u.1 u.2.1 u.2.2 t.heap) (Ag g)) 0 0 (Ag g) := by
  refine Met.ofW (cc := cX6_leaveLetters) (maxL := 3) (ret := (some .int)) (by decide) rfl ?_
  intro p e s m args below meth c s₁ B hml hv
  obtain ⟨rfl, hG, hM⟩ := hv
  have C : Cx p s m _ meth c cX6_leaveLetters 3 RX6 (some .int) g := Cx.of B hml hG
  have hx := C.1
  have hb := C.2.1
  have hown := C.2.2.2.1
  have hr := C.2.2.2.2.2.1
  have hlocks := C.2.2.2.2.2.2.1
  have hS : va_S (Ag g) s.heap s.heap [] := va_S.rf
  refine lv_start ([.ref (adr 0), .int x, .int y] : List Value) (L := [(0, .ref (adr 0)), (1, .int x), (2, .int y)]) (Nat.le_of_ble_eq_true rfl) rfl (fun ls hl => ?_)
  refine lv_aload_n hx hb dX6_leaveLetters_0 rfl (lv_at hl 0 rfl) ?_
  refine lv_iconst (v := 0) hx hb dX6_leaveLetters_1 (by decide) ?_
  refine m_put C hM hS 0 rfl q2338 rfl rfl rfl dX6_leaveLetters_2 (fun i1 H locs ei1 hM hS => ?_)
  have hw := hw i1 ei1
  refine lv_aload_n hx hb dX6_leaveLetters_5 rfl (lv_at hl 0 rfl) ?_
  refine m_get C hM 1 (by decide) q2339 rfl rfl dX6_leaveLetters_6 ?_
  refine lv_iload_n hx hb dX6_leaveLetters_9 rfl (lv_at hl 1 rfl) ?_
  refine vp_callSi (va_runS (As := [.ref (adr 1), .int x]) (rest := []) C.fix (met_X6_hasInnAt l g F adr i1 a q 1 (by decide) x ) (cw_X6_85 C.ts ⟨Nat.le_of_ble_eq_true rfl, Nat.le_of_ble_eq_true rfl⟩) (preS_of C (P := (MS g F adr i1 a q)) hS hM _) rfl rfl hl.1 rfl (lv_room (Nat.le_of_ble_eq_true rfl)) dX6_leaveLetters_10 ⟨Nat.le_of_ble_eq_true rfl, Nat.le_of_ble_eq_true rfl⟩).run (fun r2 er2 => ?_)
  have hw := hw r2 er2
  refine lv_if_ne (tgt := 22) hx hb dX6_leaveLetters_13 (by decide) (fun c3 => ?_) (fun c3 => ?_)
  · have hw := hw.1 c3
    refine lv_iload_n hx hb dX6_leaveLetters_22 rfl (lv_at hl 2 rfl) ?_
    refine lv_i2l hx hb dX6_leaveLetters_23 rfl ?_
    refine lv_lconst (v := 1) hx hb dX6_leaveLetters_24 (by decide) ?_
    refine lv_ldc2 (v := 99) hx hb hown (C.ts _ q2633) dX6_leaveLetters_25 ?_
    refine vp_callSi (va_runS (As := [.long y.toInt64, .long 1, .long 99]) (rest := []) C.fix (met_X6_isIn l g  y.toInt64 1 99 ) (cw_X6_61 C.ts ⟨Nat.le_of_ble_eq_true rfl, Nat.le_of_ble_eq_true rfl⟩) (preS_of C (P := (fun _ => True)) hS trivial _) rfl rfl hl.1 rfl (lv_room (Nat.le_of_ble_eq_true rfl)) dX6_leaveLetters_28 ⟨Nat.le_of_ble_eq_true rfl, Nat.le_of_ble_eq_true rfl⟩).run (fun r4 er4 => ?_)
    have hw := hw r4 er4
    refine lv_if_ne (tgt := 40) hx hb dX6_leaveLetters_31 (by decide) (fun c5 => ?_) (fun c5 => ?_)
    · have hw := hw.1 c5
      refine lv_aload_n hx hb dX6_leaveLetters_40 rfl (lv_at hl 0 rfl) ?_
      refine m_get C hM 1 (by decide) q2339 rfl rfl dX6_leaveLetters_41 ?_
      refine lv_bipush (v := 39) hx hb dX6_leaveLetters_44 (by decide) ?_
      refine lv_iload_n hx hb dX6_leaveLetters_46 rfl (lv_at hl 1 rfl) ?_
      refine lv_iadd hx hb dX6_leaveLetters_47 ?_
      refine m_ald C hM (j := 1) rfl hw.1 dX6_leaveLetters_48 ?_
      have hw := hw.2
      refine lv_iload_n hx hb dX6_leaveLetters_49 rfl (lv_at hl 2 rfl) ?_
      refine lv_iadd hx hb dX6_leaveLetters_50 ?_
      refine lv_bipush (v := 99) hx hb dX6_leaveLetters_51 (by decide) ?_
      refine lv_icmp_le (tgt := 62) hx hb dX6_leaveLetters_53 (by decide) (fun c6 => ?_) (fun c6 => ?_)
      · have hw := hw.1 c6
        refine lv_aload_n hx hb dX6_leaveLetters_62 rfl (lv_at hl 0 rfl) ?_
        refine va_callv (va_runV (As := []) (rest := []) C.fix (met_X6_remembers l g F adr i1 a q  hw.1) (cw_X6_242 C.ts ⟨Nat.le_of_ble_eq_true rfl, Nat.le_of_ble_eq_true rfl⟩) (preV_of C (P := (MS g F adr i1 a q)) (MS.recv C hM) hS hM _) rfl rfl hl.1 rfl (lv_room (Nat.le_of_ble_eq_true rfl)) dX6_leaveLetters_63 ⟨Nat.le_of_ble_eq_true rfl, Nat.le_of_ble_eq_true rfl⟩) hS (fun _ _ h => h) (fun _ h => h) (fun z_u t H locs ht _ hw1 hB _ _ hS => ?_)
        obtain ⟨i8, a9, q10⟩ := z_u
        have hM : MS g F adr i8 a9 q10 H := by rw [← ht]; exact hB
        have hw := hw.2 i8 a9 q10 hw1
        refine lv_aload_n hx hb dX6_leaveLetters_66 rfl (lv_at hl 0 rfl) ?_
        refine m_get C hM 1 (by decide) q2339 rfl rfl dX6_leaveLetters_67 ?_
        refine lv_bipush (v := 39) hx hb dX6_leaveLetters_70 (by decide) ?_
        refine lv_iload_n hx hb dX6_leaveLetters_72 rfl (lv_at hl 1 rfl) ?_
        refine lv_iadd hx hb dX6_leaveLetters_73 ?_
        refine lv_dup2_11 hx hb dX6_leaveLetters_74 rfl rfl ?_
        refine m_ald C hM (j := 1) rfl hw.1 dX6_leaveLetters_75 ?_
        have hw := hw.2
        refine lv_iload_n hx hb dX6_leaveLetters_76 rfl (lv_at hl 2 rfl) ?_
        refine lv_iadd hx hb dX6_leaveLetters_77 ?_
        refine m_ast C hM hS (j := 1) rfl hw.1 dX6_leaveLetters_78 (fun a11 H locs ea11 hM hS => ?_)
        have hw := hw.2 a11 ea11
        refine lv_aload_n hx hb dX6_leaveLetters_79 rfl (lv_at hl 0 rfl) ?_
        refine m_get C hM 1 (by decide) q2339 rfl rfl dX6_leaveLetters_80 ?_
        refine lv_bipush (v := 39) hx hb dX6_leaveLetters_83 (by decide) ?_
        refine lv_iload_n hx hb dX6_leaveLetters_85 rfl (lv_at hl 1 rfl) ?_
        refine lv_iadd hx hb dX6_leaveLetters_86 ?_
        refine m_ald C hM (j := 1) rfl hw.1 dX6_leaveLetters_87 ?_
        have hw := hw.2
        exact W.iret (v := (a11 1 (39 + x).toNatClampNeg)) hx hb hr (fun t ht _ => ⟨⟨(a11 1 (39 + x).toNatClampNeg), (i8, a11, q10), rfl, hw, hM.at ht⟩, hS.F ht⟩) hS.2.2 dX6_leaveLetters_88
      · have hw := hw.2 c6
        refine lv_aload_n hx hb dX6_leaveLetters_56 rfl (lv_at hl 0 rfl) ?_
        refine lv_iconst (v := 3) hx hb dX6_leaveLetters_57 (by decide) ?_
        refine va_calli (va_runV (As := [.int 3]) (rest := []) C.fix (met_X6_fails l g F adr i1 a q 3 ) (cw_X6_136 C.ts ⟨Nat.le_of_ble_eq_true rfl, Nat.le_of_ble_eq_true rfl⟩) (preV_of C (P := (MS g F adr i1 a q)) (MS.recv C hM) hS hM _) rfl rfl hl.1 rfl (lv_room (Nat.le_of_ble_eq_true rfl)) dX6_leaveLetters_58 ⟨Nat.le_of_ble_eq_true rfl, Nat.le_of_ble_eq_true rfl⟩) hS (fun _ _ h => h) (fun _ h => h) (fun r12 z_u t H locs ht _ hw1 hB _ _ hS => ?_)
        obtain ⟨i13, a14, q15⟩ := z_u
        have hM : MS g F adr i13 a14 q15 H := by rw [← ht]; exact hB
        have hw := hw r12 i13 a14 q15 hw1
        exact W.iret (v := r12) hx hb hr (fun t ht _ => ⟨⟨r12, (i13, a14, q15), rfl, hw, hM.at ht⟩, hS.F ht⟩) hS.2.2 dX6_leaveLetters_61
    · have hw := hw.2 c5
      refine lv_aload_n hx hb dX6_leaveLetters_34 rfl (lv_at hl 0 rfl) ?_
      refine lv_iconst (v := 2) hx hb dX6_leaveLetters_35 (by decide) ?_
      refine va_calli (va_runV (As := [.int 2]) (rest := []) C.fix (met_X6_fails l g F adr i1 a q 2 ) (cw_X6_136 C.ts ⟨Nat.le_of_ble_eq_true rfl, Nat.le_of_ble_eq_true rfl⟩) (preV_of C (P := (MS g F adr i1 a q)) (MS.recv C hM) hS hM _) rfl rfl hl.1 rfl (lv_room (Nat.le_of_ble_eq_true rfl)) dX6_leaveLetters_36 ⟨Nat.le_of_ble_eq_true rfl, Nat.le_of_ble_eq_true rfl⟩) hS (fun _ _ h => h) (fun _ h => h) (fun r16 z_u t H locs ht _ hw1 hB _ _ hS => ?_)
      obtain ⟨i17, a18, q19⟩ := z_u
      have hM : MS g F adr i17 a18 q19 H := by rw [← ht]; exact hB
      have hw := hw r16 i17 a18 q19 hw1
      exact W.iret (v := r16) hx hb hr (fun t ht _ => ⟨⟨r16, (i17, a18, q19), rfl, hw, hM.at ht⟩, hS.F ht⟩) hS.2.2 dX6_leaveLetters_39
  · have hw := hw.2 c3
    refine lv_aload_n hx hb dX6_leaveLetters_16 rfl (lv_at hl 0 rfl) ?_
    refine lv_iconst (v := 1) hx hb dX6_leaveLetters_17 (by decide) ?_
    refine va_calli (va_runV (As := [.int 1]) (rest := []) C.fix (met_X6_fails l g F adr i1 a q 1 ) (cw_X6_136 C.ts ⟨Nat.le_of_ble_eq_true rfl, Nat.le_of_ble_eq_true rfl⟩) (preV_of C (P := (MS g F adr i1 a q)) (MS.recv C hM) hS hM _) rfl rfl hl.1 rfl (lv_room (Nat.le_of_ble_eq_true rfl)) dX6_leaveLetters_18 ⟨Nat.le_of_ble_eq_true rfl, Nat.le_of_ble_eq_true rfl⟩) hS (fun _ _ h => h) (fun _ h => h) (fun r20 z_u t H locs ht _ hw1 hB _ _ hS => ?_)
    obtain ⟨i21, a22, q23⟩ := z_u
    have hM : MS g F adr i21 a22 q23 H := by rw [← ht]; exact hB
    have hw := hw r20 i21 a22 q23 hw1
    exact W.iret (v := r20) hx hb hr (fun t ht _ => ⟨⟨r20, (i21, a22, q23), rfl, hw, hM.at ht⟩, hS.F ht⟩) hS.2.2 dX6_leaveLetters_21
set_option maxHeartbeats 4000000 in
theorem met_X6_leaveLetters (l : Launch) (g : gG) (F : nM) (adr : Nat → Nat) (i : Nat → Int32) (a : Nat → Nat → Int32) (q : Nat → Nat) (x : Int32) (y : Int32) (hpre : pre_X6_leaveLetters i a q x y) : Met l yX6_leaveLetters (ws_ yX6_leaveLetters cX6_leaveLetters 3 (some .int)) rm_X6_leaveLetters (va_Pc [.ref (adr 0), .int x, .int y] (Pg g (MS g F adr i a q))) (va_Qi (fun r u => post_X6_leaveLetters i a q x y r u) (fun u t => MS g F adr u.1 u.2.1 u.2.2 t.heap) (Ag g)) 0 0 (Ag g) :=
  wk_X6_leaveLetters l g F adr i a q x y _ (pr_X6_leaveLetters i a q x y hpre)

abbrev rm_X6_restore : Room := ({ frames := 3, cells := 0, slots := 0, locals := 192 } : Room)
set_option maxHeartbeats 4000000 in
theorem wk_X6_restore (l : Launch) (g : gG) (F : nM) (adr : Nat → Nat) (i : Nat → Int32) (a : Nat → Nat → Int32) (q : Nat → Nat)  (post : Int32 → MSt → Prop) (hw : wp_X6_restore post i a q ) : Met l yX6_restore (ws_ yX6_restore cX6_restore 1 (some .int)) rm_X6_restore (va_Pc [.ref (adr 0)] (Pg g (MS g F adr i a q))) (va_Qi post (fun u t => MS g F adr u.1 u.2.1 u.2.2 t.heap) (Ag g)) 0 0 (Ag g) := by
  refine Met.ofW (cc := cX6_restore) (maxL := 1) (ret := (some .int)) (by decide) rfl ?_
  intro p e s m args below meth c s₁ B hml hv
  obtain ⟨rfl, hG, hM⟩ := hv
  have C : Cx p s m _ meth c cX6_restore 1 RX6 (some .int) g := Cx.of B hml hG
  have hx := C.1
  have hb := C.2.1
  have hown := C.2.2.2.1
  have hr := C.2.2.2.2.2.1
  have hlocks := C.2.2.2.2.2.2.1
  have hS : va_S (Ag g) s.heap s.heap [] := va_S.rf
  refine lv_start ([.ref (adr 0)] : List Value) (L := [(0, .ref (adr 0))]) (Nat.le_of_ble_eq_true rfl) rfl (fun ls hl => ?_)
  refine lv_aload_n hx hb dX6_restore_0 rfl (lv_at hl 0 rfl) ?_
  refine lv_iconst (v := 0) hx hb dX6_restore_1 (by decide) ?_
  refine m_put C hM hS 0 rfl q2338 rfl rfl rfl dX6_restore_2 (fun i1 H locs ei1 hM hS => ?_)
  have hw := hw i1 ei1
  refine lv_aload_n hx hb dX6_restore_5 rfl (lv_at hl 0 rfl) ?_
  refine m_get C hM 8 (by decide) q2346 rfl rfl dX6_restore_6 ?_
  refine lv_if_ne (tgt := 18) hx hb dX6_restore_9 (by decide) (fun c2 => ?_) (fun c2 => ?_)
  · have hw := hw.1 c2
    refine lv_aload_n hx hb dX6_restore_18 rfl (lv_at hl 0 rfl) ?_
    refine va_callv (va_runV (As := []) (rest := []) C.fix (met_X6_remembers l g F adr i1 a q  hw.1) (cw_X6_242 C.ts ⟨Nat.le_of_ble_eq_true rfl, Nat.le_of_ble_eq_true rfl⟩) (preV_of C (P := (MS g F adr i1 a q)) (MS.recv C hM) hS hM _) rfl rfl hl.1 rfl (lv_room (Nat.le_of_ble_eq_true rfl)) dX6_restore_19 ⟨Nat.le_of_ble_eq_true rfl, Nat.le_of_ble_eq_true rfl⟩) hS (fun _ _ h => h) (fun _ h => h) (fun z_u t H locs ht _ hw1 hB _ _ hS => ?_)
    obtain ⟨i4, a5, q6⟩ := z_u
    have hM : MS g F adr i4 a5 q6 H := by rw [← ht]; exact hB
    have hw := hw.2 i4 a5 q6 hw1
    refine lv_aload_n hx hb dX6_restore_22 rfl (lv_at hl 0 rfl) ?_
    refine m_get C hM 2 (by decide) q2340 rfl rfl dX6_restore_23 ?_
    refine lv_aload_n hx hb dX6_restore_26 rfl (lv_at hl 0 rfl) ?_
    refine m_get C hM 1 (by decide) q2339 rfl rfl dX6_restore_27 ?_
    refine va_callv (va_runS (As := [.ref (adr 2), .ref (adr 1)]) (rest := []) C.fix (met_X6_copies l g F adr i4 a5 q6 2 (by decide) 1 (by decide) ) (cw_X6_55 C.ts ⟨Nat.le_of_ble_eq_true rfl, Nat.le_of_ble_eq_true rfl⟩) (preS_of C (P := (MS g F adr i4 a5 q6)) hS hM _) rfl rfl hl.1 rfl (lv_room (Nat.le_of_ble_eq_true rfl)) dX6_restore_30 ⟨Nat.le_of_ble_eq_true rfl, Nat.le_of_ble_eq_true rfl⟩) hS (fun _ _ h => h) (fun _ h => h) (fun z_u t H locs ht _ hw1 hB _ _ hS => ?_)
    obtain ⟨i8, a9, q10⟩ := z_u
    have hM : MS g F adr i8 a9 q10 H := by rw [← ht]; exact hB
    have hw := hw i8 a9 q10 hw1
    refine lv_aload_n hx hb dX6_restore_33 rfl (lv_at hl 0 rfl) ?_
    refine m_get C hM 1 (by decide) q2339 rfl rfl dX6_restore_34 ?_
    refine vp_callSi (va_runS (As := [.ref (adr 1)]) (rest := []) C.fix (met_X6_innsOf l g F adr i8 a9 q10 1 (by decide) ) (cw_X6_71 C.ts ⟨Nat.le_of_ble_eq_true rfl, Nat.le_of_ble_eq_true rfl⟩) (preS_of C (P := (MS g F adr i8 a9 q10)) hS hM _) rfl rfl hl.1 rfl (lv_room (Nat.le_of_ble_eq_true rfl)) dX6_restore_37 ⟨Nat.le_of_ble_eq_true rfl, Nat.le_of_ble_eq_true rfl⟩).run (fun r11 er11 => ?_)
    have hw := hw r11 er11
    exact W.iret (v := r11) hx hb hr (fun t ht _ => ⟨⟨r11, (i8, a9, q10), rfl, hw, hM.at ht⟩, hS.F ht⟩) hS.2.2 dX6_restore_40
  · have hw := hw.2 c2
    refine lv_aload_n hx hb dX6_restore_12 rfl (lv_at hl 0 rfl) ?_
    refine lv_iconst (v := 1) hx hb dX6_restore_13 (by decide) ?_
    refine va_calli (va_runV (As := [.int 1]) (rest := []) C.fix (met_X6_fails l g F adr i1 a q 1 ) (cw_X6_136 C.ts ⟨Nat.le_of_ble_eq_true rfl, Nat.le_of_ble_eq_true rfl⟩) (preV_of C (P := (MS g F adr i1 a q)) (MS.recv C hM) hS hM _) rfl rfl hl.1 rfl (lv_room (Nat.le_of_ble_eq_true rfl)) dX6_restore_14 ⟨Nat.le_of_ble_eq_true rfl, Nat.le_of_ble_eq_true rfl⟩) hS (fun _ _ h => h) (fun _ h => h) (fun r12 z_u t H locs ht _ hw1 hB _ _ hS => ?_)
    obtain ⟨i13, a14, q15⟩ := z_u
    have hM : MS g F adr i13 a14 q15 H := by rw [← ht]; exact hB
    have hw := hw r12 i13 a14 q15 hw1
    exact W.iret (v := r12) hx hb hr (fun t ht _ => ⟨⟨r12, (i13, a14, q15), rfl, hw, hM.at ht⟩, hS.F ht⟩) hS.2.2 dX6_restore_17
set_option maxHeartbeats 4000000 in
theorem met_X6_restore (l : Launch) (g : gG) (F : nM) (adr : Nat → Nat) (i : Nat → Int32) (a : Nat → Nat → Int32) (q : Nat → Nat)  (hpre : pre_X6_restore i a q ) : Met l yX6_restore (ws_ yX6_restore cX6_restore 1 (some .int)) rm_X6_restore (va_Pc [.ref (adr 0)] (Pg g (MS g F adr i a q))) (va_Qi (fun r u => post_X6_restore i a q  r u) (fun u t => MS g F adr u.1 u.2.1 u.2.2 t.heap) (Ag g)) 0 0 (Ag g) :=
  wk_X6_restore l g F adr i a q  _ (pr_X6_restore i a q  hpre)

abbrev rm_X6_undo : Room := ({ frames := 2, cells := 0, slots := 0, locals := 128 } : Room)
set_option maxHeartbeats 4000000 in
theorem wk_X6_undo (l : Launch) (g : gG) (F : nM) (adr : Nat → Nat) (i : Nat → Int32) (a : Nat → Nat → Int32) (q : Nat → Nat)  (post : Int32 → MSt → Prop) (hw : wp_X6_undo post i a q ) : Met l yX6_undo (ws_ yX6_undo cX6_undo 1 (some .int)) rm_X6_undo (va_Pc [.ref (adr 0)] (Pg g (MS g F adr i a q))) (va_Qi post (fun u t => MS g F adr u.1 u.2.1 u.2.2 t.heap) (Ag g)) 0 0 (Ag g) := by
  refine Met.ofW (cc := cX6_undo) (maxL := 1) (ret := (some .int)) (by decide) rfl ?_
  intro p e s m args below meth c s₁ B hml hv
  obtain ⟨rfl, hG, hM⟩ := hv
  have C : Cx p s m _ meth c cX6_undo 1 RX6 (some .int) g := Cx.of B hml hG
  have hx := C.1
  have hb := C.2.1
  have hown := C.2.2.2.1
  have hr := C.2.2.2.2.2.1
  have hlocks := C.2.2.2.2.2.2.1
  have hS : va_S (Ag g) s.heap s.heap [] := va_S.rf
  refine lv_start ([.ref (adr 0)] : List Value) (L := [(0, .ref (adr 0))]) (Nat.le_of_ble_eq_true rfl) rfl (fun ls hl => ?_)
  refine lv_aload_n hx hb dX6_undo_0 rfl (lv_at hl 0 rfl) ?_
  refine lv_iconst (v := 0) hx hb dX6_undo_1 (by decide) ?_
  refine m_put C hM hS 0 rfl q2338 rfl rfl rfl dX6_undo_2 (fun i1 H locs ei1 hM hS => ?_)
  have hw := hw i1 ei1
  refine lv_aload_n hx hb dX6_undo_5 rfl (lv_at hl 0 rfl) ?_
  refine m_get C hM 7 (by decide) q2345 rfl rfl dX6_undo_6 ?_
  refine lv_if_ne (tgt := 18) hx hb dX6_undo_9 (by decide) (fun c2 => ?_) (fun c2 => ?_)
  · have hw := hw.1 c2
    refine lv_aload_n hx hb dX6_undo_18 rfl (lv_at hl 0 rfl) ?_
    refine lv_dup hx hb dX6_undo_19 rfl ?_
    refine m_get C hM 7 (by decide) q2345 rfl rfl dX6_undo_20 ?_
    refine lv_iconst (v := 1) hx hb dX6_undo_23 (by decide) ?_
    refine lv_isub hx hb dX6_undo_24 ?_
    refine m_put C hM hS 7 rfl q2345 rfl rfl rfl dX6_undo_25 (fun i3 H locs ei3 hM hS => ?_)
    have hw := hw i3 ei3
    refine lv_aload_n hx hb dX6_undo_28 rfl (lv_at hl 0 rfl) ?_
    refine m_get C hM 6 (by decide) q2344 rfl rfl dX6_undo_29 ?_
    refine lv_aload_n hx hb dX6_undo_32 rfl (lv_at hl 0 rfl) ?_
    refine m_get C hM 7 (by decide) q2345 rfl rfl dX6_undo_33 ?_
    refine m_pld C hM hw.1 dX6_undo_36 ?_
    have hw := hw.2
    refine lv_aload_n hx hb dX6_undo_37 rfl (lv_at hl 0 rfl) ?_
    refine m_get C hM 1 (by decide) q2339 rfl rfl dX6_undo_38 ?_
    have hj4 := hw.1
    have hw := hw.2
    refine va_callv (va_runS (As := [.ref (adr (q (i3 7).toNatClampNeg)), .ref (adr 1)]) (rest := []) C.fix (met_X6_copies l g F adr i3 a q (q (i3 7).toNatClampNeg) hj4 1 (by decide) ) (cw_X6_55 C.ts ⟨Nat.le_of_ble_eq_true rfl, Nat.le_of_ble_eq_true rfl⟩) (preS_of C (P := (MS g F adr i3 a q)) hS hM _) rfl rfl hl.1 rfl (lv_room (Nat.le_of_ble_eq_true rfl)) dX6_undo_41 ⟨Nat.le_of_ble_eq_true rfl, Nat.le_of_ble_eq_true rfl⟩) hS (fun _ _ h => h) (fun _ h => h) (fun z_u t H locs ht _ hw1 hB _ _ hS => ?_)
    obtain ⟨i6, a7, q8⟩ := z_u
    have hM : MS g F adr i6 a7 q8 H := by rw [← ht]; exact hB
    have hw := hw i6 a7 q8 hw1
    refine lv_aload_n hx hb dX6_undo_44 rfl (lv_at hl 0 rfl) ?_
    refine m_get C hM 7 (by decide) q2345 rfl rfl dX6_undo_45 ?_
    exact W.iret (v := (i6 7)) hx hb hr (fun t ht _ => ⟨⟨(i6 7), (i6, a7, q8), rfl, hw, hM.at ht⟩, hS.F ht⟩) hS.2.2 dX6_undo_48
  · have hw := hw.2 c2
    refine lv_aload_n hx hb dX6_undo_12 rfl (lv_at hl 0 rfl) ?_
    refine lv_iconst (v := 1) hx hb dX6_undo_13 (by decide) ?_
    refine va_calli (va_runV (As := [.int 1]) (rest := []) C.fix (met_X6_fails l g F adr i1 a q 1 ) (cw_X6_136 C.ts ⟨Nat.le_of_ble_eq_true rfl, Nat.le_of_ble_eq_true rfl⟩) (preV_of C (P := (MS g F adr i1 a q)) (MS.recv C hM) hS hM _) rfl rfl hl.1 rfl (lv_room (Nat.le_of_ble_eq_true rfl)) dX6_undo_14 ⟨Nat.le_of_ble_eq_true rfl, Nat.le_of_ble_eq_true rfl⟩) hS (fun _ _ h => h) (fun _ h => h) (fun r9 z_u t H locs ht _ hw1 hB _ _ hS => ?_)
    obtain ⟨i10, a11, q12⟩ := z_u
    have hM : MS g F adr i10 a11 q12 H := by rw [← ht]; exact hB
    have hw := hw r9 i10 a11 q12 hw1
    exact W.iret (v := r9) hx hb hr (fun t ht _ => ⟨⟨r9, (i10, a11, q12), rfl, hw, hM.at ht⟩, hS.F ht⟩) hS.2.2 dX6_undo_17
set_option maxHeartbeats 4000000 in
theorem met_X6_undo (l : Launch) (g : gG) (F : nM) (adr : Nat → Nat) (i : Nat → Int32) (a : Nat → Nat → Int32) (q : Nat → Nat)  (hpre : pre_X6_undo i a q ) : Met l yX6_undo (ws_ yX6_undo cX6_undo 1 (some .int)) rm_X6_undo (va_Pc [.ref (adr 0)] (Pg g (MS g F adr i a q))) (va_Qi (fun r u => post_X6_undo i a q  r u) (fun u t => MS g F adr u.1 u.2.1 u.2.2 t.heap) (Ag g)) 0 0 (Ag g) :=
  wk_X6_undo l g F adr i a q  _ (pr_X6_undo i a q  hpre)

abbrev rm_X6_undoCount : Room := ({ frames := 1, cells := 0, slots := 0, locals := 64 } : Room)
set_option maxHeartbeats 4000000 in
theorem wk_X6_undoCount (l : Launch) (g : gG) (F : nM) (adr : Nat → Nat) (i : Nat → Int32) (a : Nat → Nat → Int32) (q : Nat → Nat)  (post : Int32 → MSt → Prop) (hw : wp_X6_undoCount post i a q ) : Met l yX6_undoCount (ws_ yX6_undoCount cX6_undoCount 1 (some .int)) rm_X6_undoCount (va_Pc [.ref (adr 0)] (Pg g (MS g F adr i a q))) (va_Qi post (fun u t => MS g F adr u.1 u.2.1 u.2.2 t.heap) (Ag g)) 0 0 (Ag g) := by
  refine Met.ofW (cc := cX6_undoCount) (maxL := 1) (ret := (some .int)) (by decide) rfl ?_
  intro p e s m args below meth c s₁ B hml hv
  obtain ⟨rfl, hG, hM⟩ := hv
  have C : Cx p s m _ meth c cX6_undoCount 1 RX6 (some .int) g := Cx.of B hml hG
  have hx := C.1
  have hb := C.2.1
  have hown := C.2.2.2.1
  have hr := C.2.2.2.2.2.1
  have hlocks := C.2.2.2.2.2.2.1
  have hS : va_S (Ag g) s.heap s.heap [] := va_S.rf
  refine lv_start ([.ref (adr 0)] : List Value) (L := [(0, .ref (adr 0))]) (Nat.le_of_ble_eq_true rfl) rfl (fun ls hl => ?_)
  refine lv_aload_n hx hb dX6_undoCount_0 rfl (lv_at hl 0 rfl) ?_
  refine lv_iconst (v := 0) hx hb dX6_undoCount_1 (by decide) ?_
  refine m_put C hM hS 0 rfl q2338 rfl rfl rfl dX6_undoCount_2 (fun i1 H locs ei1 hM hS => ?_)
  have hw := hw i1 ei1
  refine lv_aload_n hx hb dX6_undoCount_5 rfl (lv_at hl 0 rfl) ?_
  refine m_get C hM 7 (by decide) q2345 rfl rfl dX6_undoCount_6 ?_
  exact W.iret (v := (i1 7)) hx hb hr (fun t ht _ => ⟨⟨(i1 7), (i1, a, q), rfl, hw, hM.at ht⟩, hS.F ht⟩) hS.2.2 dX6_undoCount_9
set_option maxHeartbeats 4000000 in
theorem met_X6_undoCount (l : Launch) (g : gG) (F : nM) (adr : Nat → Nat) (i : Nat → Int32) (a : Nat → Nat → Int32) (q : Nat → Nat)  (hpre : pre_X6_undoCount i a q ) : Met l yX6_undoCount (ws_ yX6_undoCount cX6_undoCount 1 (some .int)) rm_X6_undoCount (va_Pc [.ref (adr 0)] (Pg g (MS g F adr i a q))) (va_Qi (fun r u => post_X6_undoCount i a q  r u) (fun u t => MS g F adr u.1 u.2.1 u.2.2 t.heap) (Ag g)) 0 0 (Ag g) :=
  wk_X6_undoCount l g F adr i a q  _ (pr_X6_undoCount i a q  hpre)

abbrev rm_X6_save : Room := ({ frames := 2, cells := 0, slots := 0, locals := 128 } : Room)
set_option maxHeartbeats 4000000 in
theorem wk_X6_save (l : Launch) (g : gG) (F : nM) (adr : Nat → Nat) (i : Nat → Int32) (a : Nat → Nat → Int32) (q : Nat → Nat)  (post : Int32 → MSt → Prop) (hw : wp_X6_save post i a q ) : Met l yX6_save (ws_ yX6_save cX6_save 1 (some .int)) rm_X6_save (va_Pc [.ref (adr 0)] (Pg g (MS g F adr i a q))) (va_Qi post (fun u t => MS g F adr u.1 u.2.1 u.2.2 t.heap) (Ag g)) 0 0 (Ag g) := by
  refine Met.ofW (cc := cX6_save) (maxL := 1) (ret := (some .int)) (by decide) rfl ?_
  intro p e s m args below meth c s₁ B hml hv
  obtain ⟨rfl, hG, hM⟩ := hv
  have C : Cx p s m _ meth c cX6_save 1 RX6 (some .int) g := Cx.of B hml hG
  have hx := C.1
  have hb := C.2.1
  have hown := C.2.2.2.1
  have hr := C.2.2.2.2.2.1
  have hlocks := C.2.2.2.2.2.2.1
  have hS : va_S (Ag g) s.heap s.heap [] := va_S.rf
  refine lv_start ([.ref (adr 0)] : List Value) (L := [(0, .ref (adr 0))]) (Nat.le_of_ble_eq_true rfl) rfl (fun ls hl => ?_)
  refine lv_aload_n hx hb dX6_save_0 rfl (lv_at hl 0 rfl) ?_
  refine lv_iconst (v := 0) hx hb dX6_save_1 (by decide) ?_
  refine m_put C hM hS 0 rfl q2338 rfl rfl rfl dX6_save_2 (fun i1 H locs ei1 hM hS => ?_)
  have hw := hw i1 ei1
  refine lv_aload_n hx hb dX6_save_5 rfl (lv_at hl 0 rfl) ?_
  refine m_get C hM 1 (by decide) q2339 rfl rfl dX6_save_6 ?_
  refine lv_aload_n hx hb dX6_save_9 rfl (lv_at hl 0 rfl) ?_
  refine m_get C hM 2 (by decide) q2340 rfl rfl dX6_save_10 ?_
  refine va_callv (va_runS (As := [.ref (adr 1), .ref (adr 2)]) (rest := []) C.fix (met_X6_copies l g F adr i1 a q 1 (by decide) 2 (by decide) ) (cw_X6_55 C.ts ⟨Nat.le_of_ble_eq_true rfl, Nat.le_of_ble_eq_true rfl⟩) (preS_of C (P := (MS g F adr i1 a q)) hS hM _) rfl rfl hl.1 rfl (lv_room (Nat.le_of_ble_eq_true rfl)) dX6_save_13 ⟨Nat.le_of_ble_eq_true rfl, Nat.le_of_ble_eq_true rfl⟩) hS (fun _ _ h => h) (fun _ h => h) (fun z_u t H locs ht _ hw1 hB _ _ hS => ?_)
  obtain ⟨i3, a4, q5⟩ := z_u
  have hM : MS g F adr i3 a4 q5 H := by rw [← ht]; exact hB
  have hw := hw i3 a4 q5 hw1
  refine lv_aload_n hx hb dX6_save_16 rfl (lv_at hl 0 rfl) ?_
  refine lv_iconst (v := 1) hx hb dX6_save_17 (by decide) ?_
  refine m_put1 C hM hS q2346 dX6_save_18 (fun i6 H locs ei6 hM hS => ?_)
  have hw := hw i6 ei6
  refine lv_aload_n hx hb dX6_save_21 rfl (lv_at hl 0 rfl) ?_
  refine m_get C hM 1 (by decide) q2339 rfl rfl dX6_save_22 ?_
  refine vp_callSi (va_runS (As := [.ref (adr 1)]) (rest := []) C.fix (met_X6_innsOf l g F adr i6 a4 q5 1 (by decide) ) (cw_X6_71 C.ts ⟨Nat.le_of_ble_eq_true rfl, Nat.le_of_ble_eq_true rfl⟩) (preS_of C (P := (MS g F adr i6 a4 q5)) hS hM _) rfl rfl hl.1 rfl (lv_room (Nat.le_of_ble_eq_true rfl)) dX6_save_25 ⟨Nat.le_of_ble_eq_true rfl, Nat.le_of_ble_eq_true rfl⟩).run (fun r7 er7 => ?_)
  have hw := hw r7 er7
  exact W.iret (v := r7) hx hb hr (fun t ht _ => ⟨⟨r7, (i6, a4, q5), rfl, hw, hM.at ht⟩, hS.F ht⟩) hS.2.2 dX6_save_28
set_option maxHeartbeats 4000000 in
theorem met_X6_save (l : Launch) (g : gG) (F : nM) (adr : Nat → Nat) (i : Nat → Int32) (a : Nat → Nat → Int32) (q : Nat → Nat)  (hpre : pre_X6_save i a q ) : Met l yX6_save (ws_ yX6_save cX6_save 1 (some .int)) rm_X6_save (va_Pc [.ref (adr 0)] (Pg g (MS g F adr i a q))) (va_Qi (fun r u => post_X6_save i a q  r u) (fun u t => MS g F adr u.1 u.2.1 u.2.2 t.heap) (Ag g)) 0 0 (Ag g) :=
  wk_X6_save l g F adr i a q  _ (pr_X6_save i a q  hpre)
end
