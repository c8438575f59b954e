set_option maxRecDepth 100000
theorem cw_X6_190 {R : Room} {s : State} {args : Array Value} (hts : ∀ w ∈ lw_all, w.before args s = true) {rm : Room} (hR : rm.frames + 1 ≤ R.frames ∧ 8 + (2 + 11) + rm.locals ≤ R.locals) : CallW R s args RX6 RX6 190 yX6_isSign cX6_isSign 2 (some .boolean) (ws_ yX6_isSign cX6_isSign 2 (some .boolean)) rm rm.cells rm.slots 1 := cwV 1 hts (lw_V q2479 q2481 qs41 q98 q2482) rfl rfl rfl (by decide +kernel) hR
theorem cw_X6_209 {R : Room} {s : State} {args : Array Value} (hts : ∀ w ∈ lw_all, w.before args s = true) {rm : Room} (hR : rm.frames + 1 ≤ R.frames ∧ 8 + (3 + 11) + rm.locals ≤ R.locals) : CallW R s args RX6 RX6 209 yX6_readsPointer cX6_readsPointer 3 (some .boolean) (ws_ yX6_readsPointer cX6_readsPointer 3 (some .boolean)) rm rm.cells rm.slots 1 := cwV 1 hts (lw_V q2506 q2508 qs45 q98 q2509) rfl rfl rfl (by decide +kernel) hR
section
variable {p : Program} {l : Launch} {e : Env} {s : State} {m : MethodId} {args : Array Value} {below : List Frame} {meth : Method} {c : Code} {g : gG} {F : nM} {adr : Nat → Nat}
abbrev rm_X6_readsPointer : Room := ({ frames := 4, cells := 0, slots := 0, locals := 256 } : Room)
set_option maxHeartbeats 4000000 in
theorem wkb_X6_readsPointer_40 (C : Cx p s m args meth c cX6_readsPointer 3 RX6 (some .boolean) g) (post : Int32 → MSt → Prop)  (x : Int32) (i : Nat → Int32) (a : Nat → Nat → Int32) (q : Nat → Nat) (s0 : Int32) (s1 : Int32) (hw : wpb_X6_readsPointer_40 post  x i a q s0 s1) {H : Heap} {locs : List Loc} (hM : MS g F adr i a q H) (hS : va_S (Ag g) s.heap H locs) {ls : Array Slot} (hl : lv_has ls 3 [(0, .ref (adr 0))]) : W p l e rm_X6_readsPointer s m args below meth c H locs 0 0 (MQ below (va_Qi post (fun u t => MS g F adr u.1 u.2.1 u.2.2 t.heap) (Ag g)) args s 0 0 (Ag g)) (F0 m 40 ls [.int s0, .int s1, .ref (adr 3)]) := by
  have hx := C.1
  have hb := C.2.1
  have hown := C.2.2.2.1
  have hr := C.2.2.2.2.2.1
  have hlocks := C.2.2.2.2.2.2.1
  refine m_ast C hM hS (j := 3) rfl hw.1 dX6_readsPointer_40 (fun a9 H locs ea9 hM hS => ?_)
  have hw := hw.2 a9 ea9
  refine lv_aload_n hx hb dX6_readsPointer_41 rfl (lv_at hl 0 rfl) ?_
  refine va_callv (va_runV (As := []) (rest := []) C.fix (met_X6_advances l g F adr i a9 q  hw.1) (cw_X6_180 C.ts ⟨Nat.le_of_ble_eq_true rfl, Nat.le_of_ble_eq_true rfl⟩) (preV_of C (P := (MS g F adr i a9 q)) (MS.recv C hM) hS hM _) rfl rfl hl.1 rfl (lv_room (Nat.le_of_ble_eq_true rfl)) dX6_readsPointer_42 ⟨Nat.le_of_ble_eq_true rfl, Nat.le_of_ble_eq_true rfl⟩) hS (fun _ _ h => h) (fun _ h => h) (fun z_u t H locs ht _ hw1 hB _ _ hS => ?_)
  obtain ⟨i11, a12, q13⟩ := z_u
  have hM : MS g F adr i11 a12 q13 H := by rw [← ht]; exact hB
  have hw := hw.2 i11 a12 q13 hw1
  refine lv_iconst (v := 1) hx hb dX6_readsPointer_45 (by decide) ?_
  exact W.zret (v := 1) hx hb hr hw.1 (fun t ht _ => ⟨⟨1, (i11, a12, q13), rfl, hw.2, hM.at ht⟩, hS.F ht⟩) hS.2.2 dX6_readsPointer_46
set_option maxHeartbeats 4000000 in
theorem wkb_X6_readsPointer_23 (C : Cx p s m args meth c cX6_readsPointer 3 RX6 (some .boolean) g) (post : Int32 → MSt → Prop)  (x : Int32) (i : Nat → Int32) (a : Nat → Nat → Int32) (q : Nat → Nat) (x2 : Int32) (hw : wpb_X6_readsPointer_23 post  x i a q x2) {H : Heap} {locs : List Loc} (hM : MS g F adr i a q H) (hS : va_S (Ag g) s.heap H locs) {ls : Array Slot} (hl : lv_has ls 3 [(0, .ref (adr 0)), (1, .int x), (2, .int x2)]) : W p l e rm_X6_readsPointer s m args below meth c H locs 0 0 (MQ below (va_Qi post (fun u t => MS g F adr u.1 u.2.1 u.2.2 t.heap) (Ag g)) args s 0 0 (Ag g)) (F0 m 23 ls []) := by
  have hx := C.1
  have hb := C.2.1
  have hown := C.2.2.2.1
  have hr := C.2.2.2.2.2.1
  have hlocks := C.2.2.2.2.2.2.1
  refine lv_aload_n hx hb dX6_readsPointer_23 rfl (lv_at hl 0 rfl) ?_
  refine m_get C hM 3 (by decide) q2341 rfl rfl dX6_readsPointer_24 ?_
  refine lv_iload_n hx hb dX6_readsPointer_27 rfl (lv_at hl 1 rfl) ?_
  refine lv_iload_n hx hb dX6_readsPointer_28 rfl (lv_at hl 2 rfl) ?_
  refine lv_if_eq (tgt := 36) hx hb dX6_readsPointer_29 (by decide) (fun c8 => ?_) (fun c8 => ?_)
  · have hw := hw.1 c8
    refine lv_aload_n hx hb dX6_readsPointer_36 rfl (lv_at hl 0 rfl) ?_
    refine m_get C hM 23 (by decide) q2361 rfl rfl dX6_readsPointer_37 ?_
    exact wkb_X6_readsPointer_40 C post x  i a q (i 23) x hw hM hS (lv_sub hl [0] rfl)
  · have hw := hw.2 c8
    refine lv_iconst (v := (-1)) hx hb dX6_readsPointer_32 (by decide) ?_
    refine lv_goto (tgt := 40) hx hb dX6_readsPointer_33 (by decide) ?_
    exact wkb_X6_readsPointer_40 C post x  i a q (-1) x hw hM hS (lv_sub hl [0] rfl)
set_option maxHeartbeats 4000000 in
theorem wk_X6_readsPointer (l : Launch) (g : gG) (F : nM) (adr : Nat → Nat) (i : Nat → Int32) (a : Nat → Nat → Int32) (q : Nat → Nat) (x : Int32) (post : Int32 → MSt → Prop) (hw : wp_X6_readsPointer post i a q x) : Met l yX6_readsPointer (ws_ yX6_readsPointer cX6_readsPointer 3 (some .boolean)) rm_X6_readsPointer (va_Pc [.ref (adr 0), .int x] (Pg g (MS g F adr i a q))) (va_Qi post (fun u t => MS g F adr u.1 u.2.1 u.2.2 t.heap) (Ag g)) 0 0 (Ag g) := by
  refine Met.ofW (cc := cX6_readsPointer) (maxL := 3) (ret := (some .boolean)) (by decide) rfl ?_
  intro p e s m args below meth c s₁ B hml hv
  obtain ⟨rfl, hG, hM⟩ := hv
  have C : Cx p s m _ meth c cX6_readsPointer 3 RX6 (some .boolean) g := Cx.of B hml hG
  have hx := C.1
  have hb := C.2.1
  have hown := C.2.2.2.1
  have hr := C.2.2.2.2.2.1
  have hlocks := C.2.2.2.2.2.2.1
  have hS : va_S (Ag g) s.heap s.heap [] := va_S.rf
  refine lv_start ([.ref (adr 0), .int x] : List Value) (L := [(0, .ref (adr 0)), (1, .int x)]) (Nat.le_of_ble_eq_true rfl) rfl (fun ls hl => ?_)
  refine lv_aload_n hx hb dX6_readsPointer_0 rfl (lv_at hl 0 rfl) ?_
  refine lv_bipush (v := 45) hx hb dX6_readsPointer_1 (by decide) ?_
  refine vp_callSi (va_runV (As := [.int 45]) (rest := []) C.fix (met_X6_isSign l g F adr i a q 45 hw.1) (cw_X6_190 C.ts ⟨Nat.le_of_ble_eq_true rfl, Nat.le_of_ble_eq_true rfl⟩) (preV_of C (P := (MS g F adr i a q)) (MS.recv C hM) hS hM _) rfl rfl hl.1 rfl (lv_room (Nat.le_of_ble_eq_true rfl)) dX6_readsPointer_3 ⟨Nat.le_of_ble_eq_true rfl, Nat.le_of_ble_eq_true rfl⟩).run (fun r1 er1 => ?_)
  have hw := hw.2 r1 er1
  refine lv_istore_n (lv' := [(2, .int r1), (0, .ref (adr 0)), (1, .int x)]) hx hb dX6_readsPointer_6 rfl hl (by decide) rfl (fun ls hl => ?_)
  refine lv_iload_n hx hb dX6_readsPointer_7 rfl (lv_at hl 0 rfl) ?_
  refine lv_if_ne (tgt := 23) hx hb dX6_readsPointer_8 (by decide) (fun c2 => ?_) (fun c2 => ?_)
  · have hw := hw.1 c2
    exact wkb_X6_readsPointer_23 C post x  i a q r1 hw hM hS (lv_sub hl [1, 2, 0] rfl)
  · have hw := hw.2 c2
    refine lv_aload_n hx hb dX6_readsPointer_11 rfl (lv_at hl 1 rfl) ?_
    refine lv_iconst (v := 0) hx hb dX6_readsPointer_12 (by decide) ?_
    refine lv_bipush (v := 11) hx hb dX6_readsPointer_13 (by decide) ?_
    refine va_calli (va_runV (As := [.int 0, .int 11]) (rest := []) C.fix (met_X6_isNumber l g F adr i a q 0 11 hw.1) (cw_X6_186 C.ts ⟨Nat.le_of_ble_eq_true rfl, Nat.le_of_ble_eq_true rfl⟩) (preV_of C (P := (MS g F adr i a q)) (MS.recv C hM) hS hM _) rfl rfl hl.1 rfl (lv_room (Nat.le_of_ble_eq_true rfl)) dX6_readsPointer_15 ⟨Nat.le_of_ble_eq_true rfl, Nat.le_of_ble_eq_true rfl⟩) hS (fun _ _ h => h) (fun _ h => h) (fun r3 z_u t H locs ht _ hw1 hB _ _ hS => ?_)
    obtain ⟨i4, a5, q6⟩ := z_u
    have hM : MS g F adr i4 a5 q6 H := by rw [← ht]; exact hB
    have hw := hw.2 r3 i4 a5 q6 hw1
    refine lv_if_ne (tgt := 23) hx hb dX6_readsPointer_18 (by decide) (fun c7 => ?_) (fun c7 => ?_)
    · have hw := hw.1 c7
      exact wkb_X6_readsPointer_23 C post x  i4 a5 q6 r1 hw hM hS (lv_sub hl [1, 2, 0] rfl)
    · have hw := hw.2 c7
      refine lv_iconst (v := 0) hx hb dX6_readsPointer_21 (by decide) ?_
      exact W.zret (v := 0) hx hb hr hw.1 (fun t ht _ => ⟨⟨0, (i4, a5, q6), rfl, hw.2, hM.at ht⟩, hS.F ht⟩) hS.2.2 dX6_readsPointer_22
set_option maxHeartbeats 4000000 in
theorem met_X6_readsPointer (l : Launch) (g : gG) (F : nM) (adr : Nat → Nat) (i : Nat → Int32) (a : Nat → Nat → Int32) (q : Nat → Nat) (x : Int32) (hpre : pre_X6_readsPointer i a q x) : Met l yX6_readsPointer (ws_ yX6_readsPointer cX6_readsPointer 3 (some .boolean)) rm_X6_readsPointer (va_Pc [.ref (adr 0), .int x] (Pg g (MS g F adr i a q))) (va_Qi (fun r u => post_X6_readsPointer i a q x r u) (fun u t => MS g F adr u.1 u.2.1 u.2.2 t.heap) (Ag g)) 0 0 (Ag g) :=
  wk_X6_readsPointer l g F adr i a q x _ (pr_X6_readsPointer i a q x hpre)

abbrev rm_X6_readsOwnPointer : Room := ({ frames := 5, cells := 0, slots := 0, locals := 320 } : Room)
set_option maxHeartbeats 4000000 in
theorem wk_X6_readsOwnPointer (l : Launch) (g : gG) (F : nM) (adr : Nat → Nat) (i : Nat → Int32) (a : Nat → Nat → Int32) (q : Nat → Nat) (x : Int32) (y : Int32) (post : Int32 → MSt → Prop) (hw : wp_X6_readsOwnPointer post i a q x y) : Met l yX6_readsOwnPointer (ws_ yX6_readsOwnPointer cX6_readsOwnPointer 3 (some .boolean)) rm_X6_readsOwnPointer (va_Pc [.ref (adr 0), .int x, .int y] (Pg g (MS g F adr i a q))) (va_Qi post (fun u t => MS g F adr u.1 u.2.1 u.2.2 t.heap) (Ag g)) 0 0 (Ag g) := by
  refine Met.ofW (cc := cX6_readsOwnPointer) (maxL := 3) (ret := (some .boolean)) (by decide) rfl ?_
  intro p e s m args below meth c s₁ B hml hv
  obtain ⟨rfl, hG, hM⟩ := hv
  have C : Cx p s m _ meth c cX6_readsOwnPointer 3 RX6 (some .boolean) g := Cx.of B hml hG
  have hx := C.1
  have hb := C.2.1
  have hown := C.2.2.2.1
  have hr := C.2.2.2.2.2.1
  have hlocks := C.2.2.2.2.2.2.1
  have hS : va_S (Ag g) s.heap s.heap [] := va_S.rf
  refine lv_start ([.ref (adr 0), .int x, .int y] : List Value) (L := [(0, .ref (adr 0)), (1, .int x), (2, .int y)]) (Nat.le_of_ble_eq_true rfl) rfl (fun ls hl => ?_)
  refine lv_aload_n hx hb dX6_readsOwnPointer_0 rfl (lv_at hl 0 rfl) ?_
  refine lv_iload_n hx hb dX6_readsOwnPointer_1 rfl (lv_at hl 2 rfl) ?_
  refine lv_iconst (v := 1) hx hb dX6_readsOwnPointer_2 (by decide) ?_
  refine lv_iadd hx hb dX6_readsOwnPointer_3 ?_
  refine lv_bipush (v := 11) hx hb dX6_readsOwnPointer_4 (by decide) ?_
  refine va_calli (va_runV (As := [.int (y + 1), .int 11]) (rest := []) C.fix (met_X6_isNumber l g F adr i a q (y + 1) 11 hw.1) (cw_X6_186 C.ts ⟨Nat.le_of_ble_eq_true rfl, Nat.le_of_ble_eq_true rfl⟩) (preV_of C (P := (MS g F adr i a q)) (MS.recv C hM) hS hM _) rfl rfl hl.1 rfl (lv_room (Nat.le_of_ble_eq_true rfl)) dX6_readsOwnPointer_6 ⟨Nat.le_of_ble_eq_true rfl, Nat.le_of_ble_eq_true rfl⟩) hS (fun _ _ h => h) (fun _ h => h) (fun r1 z_u t H locs ht _ hw1 hB _ _ hS => ?_)
  obtain ⟨i2, a3, q4⟩ := z_u
  have hM : MS g F adr i2 a3 q4 H := by rw [← ht]; exact hB
  have hw := hw.2 r1 i2 a3 q4 hw1
  refine lv_if_eq (tgt := 26) hx hb dX6_readsOwnPointer_9 (by decide) (fun c5 => ?_) (fun c5 => ?_)
  · have hw := hw.1 c5
    refine lv_iconst (v := 0) hx hb dX6_readsOwnPointer_26 (by decide) ?_
    exact W.zret (v := 0) hx hb hr hw.1 (fun t ht _ => ⟨⟨0, (i2, a3, q4), rfl, hw.2, hM.at ht⟩, hS.F ht⟩) hS.2.2 dX6_readsOwnPointer_27
  · have hw := hw.2 c5
    refine lv_aload_n hx hb dX6_readsOwnPointer_12 rfl (lv_at hl 0 rfl) ?_
    refine m_get C hM 3 (by decide) q2341 rfl rfl dX6_readsOwnPointer_13 ?_
    refine lv_iconst (v := 3) hx hb dX6_readsOwnPointer_16 (by decide) ?_
    refine lv_aload_n hx hb dX6_readsOwnPointer_17 rfl (lv_at hl 0 rfl) ?_
    refine m_get C hM 23 (by decide) q2361 rfl rfl dX6_readsOwnPointer_18 ?_
    refine lv_iadd hx hb dX6_readsOwnPointer_21 ?_
    refine m_ald C hM (j := 3) rfl hw.1 dX6_readsOwnPointer_22 ?_
    have hw := hw.2
    refine lv_if_ne (tgt := 28) hx hb dX6_readsOwnPointer_23 (by decide) (fun c6 => ?_) (fun c6 => ?_)
    · have hw := hw.1 c6
      refine lv_aload_n hx hb dX6_readsOwnPointer_28 rfl (lv_at hl 0 rfl) ?_
      refine lv_aload_n hx hb dX6_readsOwnPointer_29 rfl (lv_at hl 0 rfl) ?_
      refine m_get C hM 23 (by decide) q2361 rfl rfl dX6_readsOwnPointer_30 ?_
      refine m_put C hM hS 24 rfl q2362 rfl rfl rfl dX6_readsOwnPointer_33 (fun i7 H locs ei7 hM hS => ?_)
      have hw := hw i7 ei7
      refine lv_aload_n hx hb dX6_readsOwnPointer_36 rfl (lv_at hl 0 rfl) ?_
      refine va_callv (va_runV (As := []) (rest := []) C.fix (met_X6_advances l g F adr i7 a3 q4  hw.1) (cw_X6_180 C.ts ⟨Nat.le_of_ble_eq_true rfl, Nat.le_of_ble_eq_true rfl⟩) (preV_of C (P := (MS g F adr i7 a3 q4)) (MS.recv C hM) hS hM _) rfl rfl hl.1 rfl (lv_room (Nat.le_of_ble_eq_true rfl)) dX6_readsOwnPointer_37 ⟨Nat.le_of_ble_eq_true rfl, Nat.le_of_ble_eq_true rfl⟩) hS (fun _ _ h => h) (fun _ h => h) (fun z_u t H locs ht _ hw1 hB _ _ hS => ?_)
      obtain ⟨i9, a10, q11⟩ := z_u
      have hM : MS g F adr i9 a10 q11 H := by rw [← ht]; exact hB
      have hw := hw.2 i9 a10 q11 hw1
      refine lv_aload_n hx hb dX6_readsOwnPointer_40 rfl (lv_at hl 0 rfl) ?_
      refine lv_iload_n hx hb dX6_readsOwnPointer_41 rfl (lv_at hl 1 rfl) ?_
      refine lv_aload_n hx hb dX6_readsOwnPointer_42 rfl (lv_at hl 0 rfl) ?_
      refine m_get C hM 24 (by decide) q2362 rfl rfl dX6_readsOwnPointer_43 ?_
      refine lv_iadd hx hb dX6_readsOwnPointer_46 ?_
      refine va_calli (va_runV (As := [.int (x + (i9 24))]) (rest := []) C.fix (met_X6_readsPointer l g F adr i9 a10 q11 (x + (i9 24)) hw.1) (cw_X6_209 C.ts ⟨Nat.le_of_ble_eq_true rfl, Nat.le_of_ble_eq_true rfl⟩) (preV_of C (P := (MS g F adr i9 a10 q11)) (MS.recv C hM) hS hM _) rfl rfl hl.1 rfl (lv_room (Nat.le_of_ble_eq_true rfl)) dX6_readsOwnPointer_47 ⟨Nat.le_of_ble_eq_true rfl, Nat.le_of_ble_eq_true rfl⟩) hS (fun _ _ h => h) (fun _ h => h) (fun r12 z_u t H locs ht _ hw1 hB _ _ hS => ?_)
      obtain ⟨i13, a14, q15⟩ := z_u
      have hM : MS g F adr i13 a14 q15 H := by rw [← ht]; exact hB
      have hw := hw.2 r12 i13 a14 q15 hw1
      exact W.zret (v := r12) hx hb hr hw.1 (fun t ht _ => ⟨⟨r12, (i13, a14, q15), rfl, hw.2, hM.at ht⟩, hS.F ht⟩) hS.2.2 dX6_readsOwnPointer_50
    · have hw := hw.2 c6
      refine lv_iconst (v := 0) hx hb dX6_readsOwnPointer_26 (by decide) ?_
      exact W.zret (v := 0) hx hb hr hw.1 (fun t ht _ => ⟨⟨0, (i2, a3, q4), rfl, hw.2, hM.at ht⟩, hS.F ht⟩) hS.2.2 dX6_readsOwnPointer_27
set_option maxHeartbeats 4000000 in
theorem met_X6_readsOwnPointer (l : Launch) (g : gG) (F : nM) (adr : Nat → Nat) (i : Nat → Int32) (a : Nat → Nat → Int32) (q : Nat → Nat) (x : Int32) (y : Int32) (hpre : pre_X6_readsOwnPointer i a q x y) : Met l yX6_readsOwnPointer (ws_ yX6_readsOwnPointer cX6_readsOwnPointer 3 (some .boolean)) rm_X6_readsOwnPointer (va_Pc [.ref (adr 0), .int x, .int y] (Pg g (MS g F adr i a q))) (va_Qi (fun r u => post_X6_readsOwnPointer i a q x y r u) (fun u t => MS g F adr u.1 u.2.1 u.2.2 t.heap) (Ag g)) 0 0 (Ag g) :=
  wk_X6_readsOwnPointer l g F adr i a q x y _ (pr_X6_readsOwnPointer i a q x y hpre)

abbrev rm_X6_partAt : Room := ({ frames := 8, cells := 0, slots := 0, locals := 512 } : Room)
set_option maxHeartbeats 4000000 in
theorem wk_X6_partAt (l : Launch) (g : gG) (F : nM) (adr : Nat → Nat) (i : Nat → Int32) (a : Nat → Nat → Int32) (q : Nat → Nat)  (post : Int32 → Prop) (hw : wp_X6_partAt post i a q ) : Met l yX6_partAt (ws_ yX6_partAt cX6_partAt 1 (some .int)) rm_X6_partAt (va_Pc [.ref (adr 0)] (Pg g (MS g F adr i a q))) (vp_Si post) 0 0 (fun _ => False) := by
  refine Met.ofW (cc := cX6_partAt) (maxL := 1) (ret := (some .int)) (by decide) rfl ?_
  intro p e s m args below meth c s₁ B hml hv
  obtain ⟨rfl, hG, hM⟩ := hv
  have C : Cx p s m _ meth c cX6_partAt 1 RX6 (some .int) g := Cx.of B hml hG
  have hx := C.1
  have hb := C.2.1
  have hown := C.2.2.2.1
  have hr := C.2.2.2.2.2.1
  have hlocks := C.2.2.2.2.2.2.1
  refine lv_start ([.ref (adr 0)] : List Value) (L := [(0, .ref (adr 0))]) (Nat.le_of_ble_eq_true rfl) rfl (fun ls hl => ?_)
  refine lv_aload_n hx hb dX6_partAt_0 rfl (lv_at hl 0 rfl) ?_
  obtain ⟨sa1, hvsa1, hsa1⟩ := stX6_212 C
  refine va_ldcS hx hb hown hvsa1 dX6_partAt_1 ?_
  refine vp_callSi (va_runV (As := [.ref sa1]) (rest := []) C.fix (met_X6_isWord l g F adr i a q tx_inn sa1 hsa1 hw.1) (cw_X6_176 C.ts ⟨Nat.le_of_ble_eq_true rfl, Nat.le_of_ble_eq_true rfl⟩) (preV_of C (P := (MS g F adr i a q)) (MS.recv C hM) va_S.rf hM _) rfl rfl hl.1 rfl (lv_room (Nat.le_of_ble_eq_true rfl)) dX6_partAt_3 ⟨Nat.le_of_ble_eq_true rfl, Nat.le_of_ble_eq_true rfl⟩).run (fun r2 er2 => ?_)
  have hw := hw.2 r2 er2
  refine lv_if_eq (tgt := 13) hx hb dX6_partAt_6 (by decide) (fun c3 => ?_) (fun c3 => ?_)
  · have hw := hw.1 c3
    refine lv_aload_n hx hb dX6_partAt_13 rfl (lv_at hl 0 rfl) ?_
    obtain ⟨sa4, hvsa4, hsa4⟩ := stX6_214 C
    refine va_ldcS hx hb hown hvsa4 dX6_partAt_14 ?_
    refine vp_callSi (va_runV (As := [.ref sa4]) (rest := []) C.fix (met_X6_isWord l g F adr i a q tx_first sa4 hsa4 hw.1) (cw_X6_176 C.ts ⟨Nat.le_of_ble_eq_true rfl, Nat.le_of_ble_eq_true rfl⟩) (preV_of C (P := (MS g F adr i a q)) (MS.recv C hM) va_S.rf hM _) rfl rfl hl.1 rfl (lv_room (Nat.le_of_ble_eq_true rfl)) dX6_partAt_16 ⟨Nat.le_of_ble_eq_true rfl, Nat.le_of_ble_eq_true rfl⟩).run (fun r5 er5 => ?_)
    have hw := hw.2 r5 er5
    refine lv_if_eq (tgt := 26) hx hb dX6_partAt_19 (by decide) (fun c6 => ?_) (fun c6 => ?_)
    · have hw := hw.1 c6
      refine lv_aload_n hx hb dX6_partAt_26 rfl (lv_at hl 0 rfl) ?_
      obtain ⟨sa7, hvsa7, hsa7⟩ := stX6_216 C
      refine va_ldcS hx hb hown hvsa7 dX6_partAt_27 ?_
      refine vp_callSi (va_runV (As := [.ref sa7]) (rest := []) C.fix (met_X6_isWord l g F adr i a q tx_second sa7 hsa7 hw.1) (cw_X6_176 C.ts ⟨Nat.le_of_ble_eq_true rfl, Nat.le_of_ble_eq_true rfl⟩) (preV_of C (P := (MS g F adr i a q)) (MS.recv C hM) va_S.rf hM _) rfl rfl hl.1 rfl (lv_room (Nat.le_of_ble_eq_true rfl)) dX6_partAt_29 ⟨Nat.le_of_ble_eq_true rfl, Nat.le_of_ble_eq_true rfl⟩).run (fun r8 er8 => ?_)
      have hw := hw.2 r8 er8
      refine lv_if_eq (tgt := 39) hx hb dX6_partAt_32 (by decide) (fun c9 => ?_) (fun c9 => ?_)
      · have hw := hw.1 c9
        refine lv_aload_n hx hb dX6_partAt_39 rfl (lv_at hl 0 rfl) ?_
        obtain ⟨sa10, hvsa10, hsa10⟩ := stX6_218 C
        refine va_ldcS hx hb hown hvsa10 dX6_partAt_40 ?_
        refine vp_callSi (va_runV (As := [.ref sa10]) (rest := []) C.fix (met_X6_isWord l g F adr i a q tx_count sa10 hsa10 hw.1) (cw_X6_176 C.ts ⟨Nat.le_of_ble_eq_true rfl, Nat.le_of_ble_eq_true rfl⟩) (preV_of C (P := (MS g F adr i a q)) (MS.recv C hM) va_S.rf hM _) rfl rfl hl.1 rfl (lv_room (Nat.le_of_ble_eq_true rfl)) dX6_partAt_42 ⟨Nat.le_of_ble_eq_true rfl, Nat.le_of_ble_eq_true rfl⟩).run (fun r11 er11 => ?_)
        have hw := hw.2 r11 er11
        refine lv_if_eq (tgt := 52) hx hb dX6_partAt_45 (by decide) (fun c12 => ?_) (fun c12 => ?_)
        · have hw := hw.1 c12
          refine lv_aload_n hx hb dX6_partAt_52 rfl (lv_at hl 0 rfl) ?_
          obtain ⟨sa13, hvsa13, hsa13⟩ := stX6_220 C
          refine va_ldcS hx hb hown hvsa13 dX6_partAt_53 ?_
          refine vp_callSi (va_runV (As := [.ref sa13]) (rest := []) C.fix (met_X6_isWord l g F adr i a q tx_next sa13 hsa13 hw.1) (cw_X6_176 C.ts ⟨Nat.le_of_ble_eq_true rfl, Nat.le_of_ble_eq_true rfl⟩) (preV_of C (P := (MS g F adr i a q)) (MS.recv C hM) va_S.rf hM _) rfl rfl hl.1 rfl (lv_room (Nat.le_of_ble_eq_true rfl)) dX6_partAt_55 ⟨Nat.le_of_ble_eq_true rfl, Nat.le_of_ble_eq_true rfl⟩).run (fun r14 er14 => ?_)
          have hw := hw.2 r14 er14
          refine lv_if_eq (tgt := 65) hx hb dX6_partAt_58 (by decide) (fun c15 => ?_) (fun c15 => ?_)
          · have hw := hw.1 c15
            refine lv_aload_n hx hb dX6_partAt_65 rfl (lv_at hl 0 rfl) ?_
            obtain ⟨sa16, hvsa16, hsa16⟩ := stX6_222 C
            refine va_ldcS hx hb hown hvsa16 dX6_partAt_66 ?_
            refine vp_callSi (va_runV (As := [.ref sa16]) (rest := []) C.fix (met_X6_isWord l g F adr i a q tx_skip sa16 hsa16 hw.1) (cw_X6_176 C.ts ⟨Nat.le_of_ble_eq_true rfl, Nat.le_of_ble_eq_true rfl⟩) (preV_of C (P := (MS g F adr i a q)) (MS.recv C hM) va_S.rf hM _) rfl rfl hl.1 rfl (lv_room (Nat.le_of_ble_eq_true rfl)) dX6_partAt_68 ⟨Nat.le_of_ble_eq_true rfl, Nat.le_of_ble_eq_true rfl⟩).run (fun r17 er17 => ?_)
            have hw := hw.2 r17 er17
            refine lv_if_eq (tgt := 78) hx hb dX6_partAt_71 (by decide) (fun c18 => ?_) (fun c18 => ?_)
            · have hw := hw.1 c18
              refine lv_iconst (v := (-1)) hx hb dX6_partAt_78 (by decide) ?_
              exact W.iret (v := (-1)) hx hb hr (fun t ht _ => ⟨(-1), rfl, hw, ht⟩) (fun _ h => by cases h) dX6_partAt_79
            · have hw := hw.2 c18
              refine lv_iconst (v := 5) hx hb dX6_partAt_74 (by decide) ?_
              refine lv_goto (tgt := 79) hx hb dX6_partAt_75 (by decide) ?_
              exact W.iret (v := 5) hx hb hr (fun t ht _ => ⟨5, rfl, hw, ht⟩) (fun _ h => by cases h) dX6_partAt_79
          · have hw := hw.2 c15
            refine lv_iconst (v := 4) hx hb dX6_partAt_61 (by decide) ?_
            refine lv_goto (tgt := 79) hx hb dX6_partAt_62 (by decide) ?_
            exact W.iret (v := 4) hx hb hr (fun t ht _ => ⟨4, rfl, hw, ht⟩) (fun _ h => by cases h) dX6_partAt_79
        · have hw := hw.2 c12
          refine lv_iconst (v := 3) hx hb dX6_partAt_48 (by decide) ?_
          refine lv_goto (tgt := 79) hx hb dX6_partAt_49 (by decide) ?_
          exact W.iret (v := 3) hx hb hr (fun t ht _ => ⟨3, rfl, hw, ht⟩) (fun _ h => by cases h) dX6_partAt_79
      · have hw := hw.2 c9
        refine lv_iconst (v := 2) hx hb dX6_partAt_35 (by decide) ?_
        refine lv_goto (tgt := 79) hx hb dX6_partAt_36 (by decide) ?_
        exact W.iret (v := 2) hx hb hr (fun t ht _ => ⟨2, rfl, hw, ht⟩) (fun _ h => by cases h) dX6_partAt_79
    · have hw := hw.2 c6
      refine lv_iconst (v := 1) hx hb dX6_partAt_22 (by decide) ?_
      refine lv_goto (tgt := 79) hx hb dX6_partAt_23 (by decide) ?_
      exact W.iret (v := 1) hx hb hr (fun t ht _ => ⟨1, rfl, hw, ht⟩) (fun _ h => by cases h) dX6_partAt_79
  · have hw := hw.2 c3
    refine lv_iconst (v := 0) hx hb dX6_partAt_9 (by decide) ?_
    refine lv_goto (tgt := 79) hx hb dX6_partAt_10 (by decide) ?_
    exact W.iret (v := 0) hx hb hr (fun t ht _ => ⟨0, rfl, hw, ht⟩) (fun _ h => by cases h) dX6_partAt_79
set_option maxHeartbeats 4000000 in
theorem met_X6_partAt (l : Launch) (g : gG) (F : nM) (adr : Nat → Nat) (i : Nat → Int32) (a : Nat → Nat → Int32) (q : Nat → Nat)  (hpre : pre_X6_partAt i a q ) : Met l yX6_partAt (ws_ yX6_partAt cX6_partAt 1 (some .int)) rm_X6_partAt (va_Pc [.ref (adr 0)] (Pg g (MS g F adr i a q))) (vp_Si (fun r => post_X6_partAt i a q  r)) 0 0 (fun _ => False) :=
  wk_X6_partAt l g F adr i a q  _ (pr_X6_partAt i a q  hpre)
end
